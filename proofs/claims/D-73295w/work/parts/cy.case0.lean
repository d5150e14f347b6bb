/-! GuestViewLaw: the law's cases 0 to 12 -/
section LW
variable {G : GW} {d : Nat} {M : Mem} {Q : Res → Mem → Prop} {s : Sg} {N len i : Int} {sc : Int → Int}
theorem b_patch {v : Vw} {n : Int} {A : Int → Vw} {hi : Int} {vi : Vw} {tp : Int → Int} {sz fa op b c y : Int} {s : Sg} (hR : Z_patch v n A hi vi tp sz fa op b c y s) (h0 : c = 0) : y = 0 ∨ y = 1 := by
  rcases hR with ⟨-, -, e, -⟩ | ⟨-, e, -⟩
  · rw [e]; exact vP_r _
  · exact absurd (h0.symm.trans e) (by omega)
theorem b_guard {v : Vw} {n : Int} {A : Int → Vw} {hi : Int} {vi : Vw} {tp : Int → Int} {sz fa op b c y : Int} {s : Sg} (hR : Z_guard v n A hi vi tp sz fa op b c y s) (h0 : c = 0) : y = 0 ∨ y = 1 := by
  rcases hR with ⟨-, -, e, -⟩ | ⟨-, e, -⟩
  · rw [e]; exact vP_r _
  · exact absurd (h0.symm.trans e) (by omega)
theorem b_clash {v : Vw} {n : Int} {A : Int → Vw} {hi : Int} {vi : Vw} {tp : Int → Int} {sz fa a b c y : Int} {s : Sg} (hR : Z_clash v n A hi vi tp sz fa a b c y s) (h0 : c = 0) : y = 0 ∨ y = 1 := by
  rcases hR with ⟨-, -, e, -⟩ | ⟨-, e, -⟩ | ⟨-, e, -⟩
  · rw [e]; exact vP_r _
  · exact absurd (h0.symm.trans e) (by omega)
  · exact absurd (h0.symm.trans e) (by omega)
theorem cs_0 (hd : 100 ≤ d) (hJ : IV M s N len sc) (hN : N ≤ 900000000) (hi0 : 0 ≤ i ∧ i + 6 ≤ len) (hln : len ≤ 384) (hk : ∀ (M1 : Mem) (s1 : Sg) (N1 : Int) (o5 o6 : Option DV), IV M1 s1 N1 len sc → N1 ≤ N + 120 → mnx M1 ≤ mnx M + 1400 → mns M1 ≤ mns M + 6000 → WP G d mL_law 2737 [some (dR (-5)), some (dR 0), some (dR 744), some (dR 760), some (dI i), o5, o6] [] M1 Q) : WP G d mL_law 264 [some (dR (-5)), some (dR 0), some (dR 744), some (dR 760), some (dI i), none, none] [] M Q := by
  obtain ⟨v, n, A, hi, vi, tp, sz, fa⟩ := s
  obtain ⟨hC0, hT0, hF, h7, s5, hsc⟩ := id hJ
  have hC : CI M v n A hi vi tp sz fa N := hC0
  have s0 : msh M 0 = some (1, 0) := hC.1.1.1.1
  have hA : okA v := hC.2.1.1
  have hL : lawOK v := hC.2.1.2.1
  have hn : 0 ≤ n ∧ n ≤ 12 := hC.2.2.1.2.1
  refine x_aload_n dL_law_264 rfl rfl ?_
  refine x_aload_n dL_law_265 rfl rfl ?_
  refine x_iload dL_law_266 rfl ?_
  refine x_iconst dL_law_268 rfl ?_
  first | refine x_iaddN dL_law_269 (by unfold i32; omega) ?_ | refine x_iadd dL_law_269 ?_
  refine x_iald dL_law_270 (by first | assumption | first | assumption | (simp (disch := omega) only [shI, shR, shL, shC, shD, shW, sh_V, shN_e, shN_n, crI, crL, crC, crW, crV, crR_e, crR_n, crN_e, crN_n, ciR, ciL, ciD, ciN_e, ciN_n, rdI_e, rdI_n, rdC_i, rdC_o, rdW, rdU_e, rdU_n, rdLW, clI, clR, clC, clD, clW, clV, clN_e, clN_n, clL_e, clL_n]; done) | (simp (disch := omega) only [shI, shR, shL, shC, shD, shW, sh_V, shN_e, shN_n, crI, crL, crC, crW, crV, crR_e, crR_n, crN_e, crN_n, ciR, ciL, ciD, ciN_e, ciN_n, rdI_e, rdI_n, rdC_i, rdC_o, rdW, rdU_e, rdU_n, rdLW, clI, clR, clC, clD, clW, clV, clN_e, clN_n, clL_e, clL_n] <;> first | assumption | rfl | omega)) (by omega) (by omega) ?_
  rw [hsc]
  refine x_aload_n dL_law_271 rfl rfl ?_
  refine x_iload dL_law_272 rfl ?_
  refine x_iconst dL_law_274 rfl ?_
  first | refine x_iaddN dL_law_275 (by unfold i32; omega) ?_ | refine x_iadd dL_law_275 ?_
  refine x_iald dL_law_276 (by first | assumption | first | assumption | (simp (disch := omega) only [shI, shR, shL, shC, shD, shW, sh_V, shN_e, shN_n, crI, crL, crC, crW, crV, crR_e, crR_n, crN_e, crN_n, ciR, ciL, ciD, ciN_e, ciN_n, rdI_e, rdI_n, rdC_i, rdC_o, rdW, rdU_e, rdU_n, rdLW, clI, clR, clC, clD, clW, clV, clN_e, clN_n, clL_e, clL_n]; done) | (simp (disch := omega) only [shI, shR, shL, shC, shD, shW, sh_V, shN_e, shN_n, crI, crL, crC, crW, crV, crR_e, crR_n, crN_e, crN_n, ciR, ciL, ciD, ciN_e, ciN_n, rdI_e, rdI_n, rdC_i, rdC_o, rdW, rdU_e, rdU_n, rdLW, clI, clR, clC, clD, clW, clV, clN_e, clN_n, clL_e, clL_n] <;> first | assumption | rfl | omega)) (by omega) (by omega) ?_
  rw [hsc]
  refine x_aload_n dL_law_277 rfl rfl ?_
  refine x_iload dL_law_278 rfl ?_
  refine x_iconst dL_law_280 rfl ?_
  first | refine x_iaddN dL_law_281 (by unfold i32; omega) ?_ | refine x_iadd dL_law_281 ?_
  refine x_iald dL_law_282 (by first | assumption | first | assumption | (simp (disch := omega) only [shI, shR, shL, shC, shD, shW, sh_V, shN_e, shN_n, crI, crL, crC, crW, crV, crR_e, crR_n, crN_e, crN_n, ciR, ciL, ciD, ciN_e, ciN_n, rdI_e, rdI_n, rdC_i, rdC_o, rdW, rdU_e, rdU_n, rdLW, clI, clR, clC, clD, clW, clV, clN_e, clN_n, clL_e, clL_n]; done) | (simp (disch := omega) only [shI, shR, shL, shC, shD, shW, sh_V, shN_e, shN_n, crI, crL, crC, crW, crV, crR_e, crR_n, crN_e, crN_n, ciR, ciL, ciD, ciN_e, ciN_n, rdI_e, rdI_n, rdC_i, rdC_o, rdW, rdU_e, rdU_n, rdLW, clI, clR, clC, clD, clW, clV, clN_e, clN_n, clL_e, clL_n] <;> first | assumption | rfl | omega)) (by omega) (by omega) ?_
  rw [hsc]
  refine x_aload_n dL_law_283 rfl rfl ?_
  refine x_iload dL_law_284 rfl ?_
  refine x_iconst dL_law_286 rfl ?_
  first | refine x_iaddN dL_law_287 (by unfold i32; omega) ?_ | refine x_iadd dL_law_287 ?_
  refine x_iald dL_law_288 (by first | assumption | first | assumption | (simp (disch := omega) only [shI, shR, shL, shC, shD, shW, sh_V, shN_e, shN_n, crI, crL, crC, crW, crV, crR_e, crR_n, crN_e, crN_n, ciR, ciL, ciD, ciN_e, ciN_n, rdI_e, rdI_n, rdC_i, rdC_o, rdW, rdU_e, rdU_n, rdLW, clI, clR, clC, clD, clW, clV, clN_e, clN_n, clL_e, clL_n]; done) | (simp (disch := omega) only [shI, shR, shL, shC, shD, shW, sh_V, shN_e, shN_n, crI, crL, crC, crW, crV, crR_e, crR_n, crN_e, crN_n, ciR, ciL, ciD, ciN_e, ciN_n, rdI_e, rdI_n, rdC_i, rdC_o, rdW, rdU_e, rdU_n, rdLW, clI, clR, clC, clD, clW, clV, clN_e, clN_n, clL_e, clL_n] <;> first | assumption | rfl | omega)) (by omega) (by omega) ?_
  rw [hsc]
  refine x_aload_n dL_law_289 rfl rfl ?_
  refine x_iload dL_law_290 rfl ?_
  refine x_iconst dL_law_292 rfl ?_
  first | refine x_iaddN dL_law_293 (by unfold i32; omega) ?_ | refine x_iadd dL_law_293 ?_
  refine x_iald dL_law_294 (by first | assumption | first | assumption | (simp (disch := omega) only [shI, shR, shL, shC, shD, shW, sh_V, shN_e, shN_n, crI, crL, crC, crW, crV, crR_e, crR_n, crN_e, crN_n, ciR, ciL, ciD, ciN_e, ciN_n, rdI_e, rdI_n, rdC_i, rdC_o, rdW, rdU_e, rdU_n, rdLW, clI, clR, clC, clD, clW, clV, clN_e, clN_n, clL_e, clL_n]; done) | (simp (disch := omega) only [shI, shR, shL, shC, shD, shW, sh_V, shN_e, shN_n, crI, crL, crC, crW, crV, crR_e, crR_n, crN_e, crN_n, ciR, ciL, ciD, ciN_e, ciN_n, rdI_e, rdI_n, rdC_i, rdC_o, rdW, rdU_e, rdU_n, rdLW, clI, clR, clC, clD, clW, clV, clN_e, clN_n, clL_e, clL_n] <;> first | assumption | rfl | omega)) (by omega) (by omega) ?_
  rw [hsc]
  refine g_callI (vs := [_, _, _, _, _, _]) (d' := d - 1) rfl (uc_feed (by omega) h7 hC) dL_law_295 kX0_126 (by omega) (by decide) rfl (Nat.le_of_ble_eq_true rfl) (rcv_o (by first | assumption | first | assumption | (simp (disch := omega) only [shI, shR, shL, shC, shD, shW, sh_V, shN_e, shN_n, crI, crL, crC, crW, crV, crR_e, crR_n, crN_e, crN_n, ciR, ciL, ciD, ciN_e, ciN_n, rdI_e, rdI_n, rdC_i, rdC_o, rdW, rdU_e, rdU_n, rdLW, clI, clR, clC, clD, clW, clV, clN_e, clN_n, clL_e, clL_n]; done) | (simp (disch := omega) only [shI, shR, shL, shC, shD, shW, sh_V, shN_e, shN_n, crI, crL, crC, crW, crV, crR_e, crR_n, crN_e, crN_n, ciR, ciL, ciD, ciN_e, ciN_n, rdI_e, rdI_n, rdC_i, rdC_o, rdW, rdU_e, rdU_n, rdLW, clI, clR, clC, clD, clW, clV, clN_e, clN_n, clL_e, clL_n] <;> first | assumption | rfl | omega)) rfl) (fun x295 M295 h295 => ?_)
  obtain ⟨s295, N295, hR295, hN295, hch295⟩ := h295
  obtain ⟨hT295, ⟨me295, mw295⟩, sf295, hs295, hok295, hX295⟩ := hJ.mid hch295
  have hI295 : TI M295 744 v n A hi vi tp sz fa := hT295
  refine x_aload_n dL_law_298 rfl rfl ?_
  refine x_aload_n dL_law_299 rfl rfl ?_
  refine x_iload dL_law_300 rfl ?_
  refine x_iconst dL_law_302 rfl ?_
  first | refine x_iaddN dL_law_303 (by unfold i32; omega) ?_ | refine x_iadd dL_law_303 ?_
  refine x_iald dL_law_304 (by first | assumption | first | assumption | (simp (disch := omega) only [shI, shR, shL, shC, shD, shW, sh_V, shN_e, shN_n, crI, crL, crC, crW, crV, crR_e, crR_n, crN_e, crN_n, ciR, ciL, ciD, ciN_e, ciN_n, rdI_e, rdI_n, rdC_i, rdC_o, rdW, rdU_e, rdU_n, rdLW, clI, clR, clC, clD, clW, clV, clN_e, clN_n, clL_e, clL_n]; done) | (simp (disch := omega) only [shI, shR, shL, shC, shD, shW, sh_V, shN_e, shN_n, crI, crL, crC, crW, crV, crR_e, crR_n, crN_e, crN_n, ciR, ciL, ciD, ciN_e, ciN_n, rdI_e, rdI_n, rdC_i, rdC_o, rdW, rdU_e, rdU_n, rdLW, clI, clR, clC, clD, clW, clV, clN_e, clN_n, clL_e, clL_n] <;> first | assumption | rfl | omega)) (by omega) (by omega) ?_
  rw [hs295]
  refine x_aload_n dL_law_305 rfl rfl ?_
  refine x_iload dL_law_306 rfl ?_
  refine x_iconst dL_law_308 rfl ?_
  first | refine x_iaddN dL_law_309 (by unfold i32; omega) ?_ | refine x_iadd dL_law_309 ?_
  refine x_iald dL_law_310 (by first | assumption | first | assumption | (simp (disch := omega) only [shI, shR, shL, shC, shD, shW, sh_V, shN_e, shN_n, crI, crL, crC, crW, crV, crR_e, crR_n, crN_e, crN_n, ciR, ciL, ciD, ciN_e, ciN_n, rdI_e, rdI_n, rdC_i, rdC_o, rdW, rdU_e, rdU_n, rdLW, clI, clR, clC, clD, clW, clV, clN_e, clN_n, clL_e, clL_n]; done) | (simp (disch := omega) only [shI, shR, shL, shC, shD, shW, sh_V, shN_e, shN_n, crI, crL, crC, crW, crV, crR_e, crR_n, crN_e, crN_n, ciR, ciL, ciD, ciN_e, ciN_n, rdI_e, rdI_n, rdC_i, rdC_o, rdW, rdU_e, rdU_n, rdLW, clI, clR, clC, clD, clW, clV, clN_e, clN_n, clL_e, clL_n] <;> first | assumption | rfl | omega)) (by omega) (by omega) ?_
  rw [hs295]
  refine x_aload_n dL_law_311 rfl rfl ?_
  refine x_iload dL_law_312 rfl ?_
  refine x_iconst dL_law_314 rfl ?_
  first | refine x_iaddN dL_law_315 (by unfold i32; omega) ?_ | refine x_iadd dL_law_315 ?_
  refine x_iald dL_law_316 (by first | assumption | first | assumption | (simp (disch := omega) only [shI, shR, shL, shC, shD, shW, sh_V, shN_e, shN_n, crI, crL, crC, crW, crV, crR_e, crR_n, crN_e, crN_n, ciR, ciL, ciD, ciN_e, ciN_n, rdI_e, rdI_n, rdC_i, rdC_o, rdW, rdU_e, rdU_n, rdLW, clI, clR, clC, clD, clW, clV, clN_e, clN_n, clL_e, clL_n]; done) | (simp (disch := omega) only [shI, shR, shL, shC, shD, shW, sh_V, shN_e, shN_n, crI, crL, crC, crW, crV, crR_e, crR_n, crN_e, crN_n, ciR, ciL, ciD, ciN_e, ciN_n, rdI_e, rdI_n, rdC_i, rdC_o, rdW, rdU_e, rdU_n, rdLW, clI, clR, clC, clD, clW, clV, clN_e, clN_n, clL_e, clL_n] <;> first | assumption | rfl | omega)) (by omega) (by omega) ?_
  rw [hs295]
  refine x_aload_n dL_law_317 rfl rfl ?_
  refine x_iload dL_law_318 rfl ?_
  refine x_iconst dL_law_320 rfl ?_
  first | refine x_iaddN dL_law_321 (by unfold i32; omega) ?_ | refine x_iadd dL_law_321 ?_
  refine x_iald dL_law_322 (by first | assumption | first | assumption | (simp (disch := omega) only [shI, shR, shL, shC, shD, shW, sh_V, shN_e, shN_n, crI, crL, crC, crW, crV, crR_e, crR_n, crN_e, crN_n, ciR, ciL, ciD, ciN_e, ciN_n, rdI_e, rdI_n, rdC_i, rdC_o, rdW, rdU_e, rdU_n, rdLW, clI, clR, clC, clD, clW, clV, clN_e, clN_n, clL_e, clL_n]; done) | (simp (disch := omega) only [shI, shR, shL, shC, shD, shW, sh_V, shN_e, shN_n, crI, crL, crC, crW, crV, crR_e, crR_n, crN_e, crN_n, ciR, ciL, ciD, ciN_e, ciN_n, rdI_e, rdI_n, rdC_i, rdC_o, rdW, rdU_e, rdU_n, rdLW, clI, clR, clC, clD, clW, clV, clN_e, clN_n, clL_e, clL_n] <;> first | assumption | rfl | omega)) (by omega) (by omega) ?_
  rw [hs295]
  refine x_aload_n dL_law_323 rfl rfl ?_
  refine x_iload dL_law_324 rfl ?_
  refine x_iconst dL_law_326 rfl ?_
  first | refine x_iaddN dL_law_327 (by unfold i32; omega) ?_ | refine x_iadd dL_law_327 ?_
  refine x_iald dL_law_328 (by first | assumption | first | assumption | (simp (disch := omega) only [shI, shR, shL, shC, shD, shW, sh_V, shN_e, shN_n, crI, crL, crC, crW, crV, crR_e, crR_n, crN_e, crN_n, ciR, ciL, ciD, ciN_e, ciN_n, rdI_e, rdI_n, rdC_i, rdC_o, rdW, rdU_e, rdU_n, rdLW, clI, clR, clC, clD, clW, clV, clN_e, clN_n, clL_e, clL_n]; done) | (simp (disch := omega) only [shI, shR, shL, shC, shD, shW, sh_V, shN_e, shN_n, crI, crL, crC, crW, crV, crR_e, crR_n, crN_e, crN_n, ciR, ciL, ciD, ciN_e, ciN_n, rdI_e, rdI_n, rdC_i, rdC_o, rdW, rdU_e, rdU_n, rdLW, clI, clR, clC, clD, clW, clV, clN_e, clN_n, clL_e, clL_n] <;> first | assumption | rfl | omega)) (by omega) (by omega) ?_
  rw [hs295]
  refine g_callI (vs := [_, _, _, _, _, _]) (d' := d - 1) rfl (rc_feed (by omega) hI295 hR295) dL_law_329 kX0_130 (by omega) (by decide) rfl (Nat.le_of_ble_eq_true rfl) (rcv_o (by first | assumption | first | assumption | (simp (disch := omega) only [shI, shR, shL, shC, shD, shW, sh_V, shN_e, shN_n, crI, crL, crC, crW, crV, crR_e, crR_n, crN_e, crN_n, ciR, ciL, ciD, ciN_e, ciN_n, rdI_e, rdI_n, rdC_i, rdC_o, rdW, rdU_e, rdU_n, rdLW, clI, clR, clC, clD, clW, clV, clN_e, clN_n, clL_e, clL_n]; done) | (simp (disch := omega) only [shI, shR, shL, shC, shD, shW, sh_V, shN_e, shN_n, crI, crL, crC, crW, crV, crR_e, crR_n, crN_e, crN_n, ciR, ciL, ciD, ciN_e, ciN_n, rdI_e, rdI_n, rdC_i, rdC_o, rdW, rdU_e, rdU_n, rdLW, clI, clR, clC, clD, clW, clV, clN_e, clN_n, clL_e, clL_n] <;> first | assumption | rfl | omega)) rfl) (fun x329 M329 h329 => ?_)
  obtain ⟨e329, ht329, hr329⟩ := h329
  obtain ⟨hJ329, la329, lb329, tv329, tm329, tw329, te329⟩ := hJ.st (v' := s295.1) hch295 hr329 (fun _ _ _ => rfl) ht329 (xc_feed hF hR295)
  refine x_icmp_eq (tgt := 2737) dL_law_332 (by decide) (fun b332 => ?_) (fun b332 => ?_)
  · exact hk _ _ _ _ _ hJ329 hN295 la329 lb329
  · exact absurd e329.symm b332
theorem cs_1 (hd : 100 ≤ d) (hJ : IV M s N len sc) (hN : N ≤ 900000000) (hi0 : 0 ≤ i ∧ i + 6 ≤ len) (hln : len ≤ 384) (hk : ∀ (M1 : Mem) (s1 : Sg) (N1 : Int) (o5 o6 : Option DV), IV M1 s1 N1 len sc → N1 ≤ N + 120 → mnx M1 ≤ mnx M + 1400 → mns M1 ≤ mns M + 6000 → WP G d mL_law 2737 [some (dR (-5)), some (dR 0), some (dR 744), some (dR 760), some (dI i), o5, o6] [] M1 Q) : WP G d mL_law 337 [some (dR (-5)), some (dR 0), some (dR 744), some (dR 760), some (dI i), none, none] [] M Q := by
  obtain ⟨v, n, A, hi, vi, tp, sz, fa⟩ := s
  obtain ⟨hC0, hT0, hF, h7, s5, hsc⟩ := id hJ
  have hC : CI M v n A hi vi tp sz fa N := hC0
  have s0 : msh M 0 = some (1, 0) := hC.1.1.1.1
  have hA : okA v := hC.2.1.1
  have hL : lawOK v := hC.2.1.2.1
  have hn : 0 ≤ n ∧ n ≤ 12 := hC.2.2.1.2.1
  refine x_aload_n dL_law_337 rfl rfl ?_
  refine x_aload_n dL_law_338 rfl rfl ?_
  refine x_iload dL_law_339 rfl ?_
  refine x_iconst dL_law_341 rfl ?_
  first | refine x_iaddN dL_law_342 (by unfold i32; omega) ?_ | refine x_iadd dL_law_342 ?_
  refine x_iald dL_law_343 (by first | assumption | first | assumption | (simp (disch := omega) only [shI, shR, shL, shC, shD, shW, sh_V, shN_e, shN_n, crI, crL, crC, crW, crV, crR_e, crR_n, crN_e, crN_n, ciR, ciL, ciD, ciN_e, ciN_n, rdI_e, rdI_n, rdC_i, rdC_o, rdW, rdU_e, rdU_n, rdLW, clI, clR, clC, clD, clW, clV, clN_e, clN_n, clL_e, clL_n]; done) | (simp (disch := omega) only [shI, shR, shL, shC, shD, shW, sh_V, shN_e, shN_n, crI, crL, crC, crW, crV, crR_e, crR_n, crN_e, crN_n, ciR, ciL, ciD, ciN_e, ciN_n, rdI_e, rdI_n, rdC_i, rdC_o, rdW, rdU_e, rdU_n, rdLW, clI, clR, clC, clD, clW, clV, clN_e, clN_n, clL_e, clL_n] <;> first | assumption | rfl | omega)) (by omega) (by omega) ?_
  rw [hsc]
  refine g_callI (vs := [_, _]) (d' := d - 1) rfl (uc_end (by omega) h7 hC) dL_law_344 kX0_131 (by omega) (by decide) rfl (Nat.le_of_ble_eq_true rfl) (rcv_o (by first | assumption | first | assumption | (simp (disch := omega) only [shI, shR, shL, shC, shD, shW, sh_V, shN_e, shN_n, crI, crL, crC, crW, crV, crR_e, crR_n, crN_e, crN_n, ciR, ciL, ciD, ciN_e, ciN_n, rdI_e, rdI_n, rdC_i, rdC_o, rdW, rdU_e, rdU_n, rdLW, clI, clR, clC, clD, clW, clV, clN_e, clN_n, clL_e, clL_n]; done) | (simp (disch := omega) only [shI, shR, shL, shC, shD, shW, sh_V, shN_e, shN_n, crI, crL, crC, crW, crV, crR_e, crR_n, crN_e, crN_n, ciR, ciL, ciD, ciN_e, ciN_n, rdI_e, rdI_n, rdC_i, rdC_o, rdW, rdU_e, rdU_n, rdLW, clI, clR, clC, clD, clW, clV, clN_e, clN_n, clL_e, clL_n] <;> first | assumption | rfl | omega)) rfl) (fun x344 M344 h344 => ?_)
  obtain ⟨s344, N344, hR344, hN344, hch344⟩ := h344
  obtain ⟨hT344, ⟨me344, mw344⟩, sf344, hs344, hok344, hX344⟩ := hJ.mid hch344
  have hI344 : TI M344 744 v n A hi vi tp sz fa := hT344
  refine x_aload_n dL_law_347 rfl rfl ?_
  refine x_aload_n dL_law_348 rfl rfl ?_
  refine x_iload dL_law_349 rfl ?_
  refine x_iconst dL_law_351 rfl ?_
  first | refine x_iaddN dL_law_352 (by unfold i32; omega) ?_ | refine x_iadd dL_law_352 ?_
  refine x_iald dL_law_353 (by first | assumption | first | assumption | (simp (disch := omega) only [shI, shR, shL, shC, shD, shW, sh_V, shN_e, shN_n, crI, crL, crC, crW, crV, crR_e, crR_n, crN_e, crN_n, ciR, ciL, ciD, ciN_e, ciN_n, rdI_e, rdI_n, rdC_i, rdC_o, rdW, rdU_e, rdU_n, rdLW, clI, clR, clC, clD, clW, clV, clN_e, clN_n, clL_e, clL_n]; done) | (simp (disch := omega) only [shI, shR, shL, shC, shD, shW, sh_V, shN_e, shN_n, crI, crL, crC, crW, crV, crR_e, crR_n, crN_e, crN_n, ciR, ciL, ciD, ciN_e, ciN_n, rdI_e, rdI_n, rdC_i, rdC_o, rdW, rdU_e, rdU_n, rdLW, clI, clR, clC, clD, clW, clV, clN_e, clN_n, clL_e, clL_n] <;> first | assumption | rfl | omega)) (by omega) (by omega) ?_
  rw [hs344]
  refine g_callI (vs := [_, _]) (d' := d - 1) rfl (rc_end (by omega) hI344 hR344) dL_law_354 kX0_135 (by omega) (by decide) rfl (Nat.le_of_ble_eq_true rfl) (rcv_o (by first | assumption | first | assumption | (simp (disch := omega) only [shI, shR, shL, shC, shD, shW, sh_V, shN_e, shN_n, crI, crL, crC, crW, crV, crR_e, crR_n, crN_e, crN_n, ciR, ciL, ciD, ciN_e, ciN_n, rdI_e, rdI_n, rdC_i, rdC_o, rdW, rdU_e, rdU_n, rdLW, clI, clR, clC, clD, clW, clV, clN_e, clN_n, clL_e, clL_n]; done) | (simp (disch := omega) only [shI, shR, shL, shC, shD, shW, sh_V, shN_e, shN_n, crI, crL, crC, crW, crV, crR_e, crR_n, crN_e, crN_n, ciR, ciL, ciD, ciN_e, ciN_n, rdI_e, rdI_n, rdC_i, rdC_o, rdW, rdU_e, rdU_n, rdLW, clI, clR, clC, clD, clW, clV, clN_e, clN_n, clL_e, clL_n] <;> first | assumption | rfl | omega)) rfl) (fun x354 M354 h354 => ?_)
  obtain ⟨e354, ht354, hr354⟩ := h354
  obtain ⟨hJ354, la354, lb354, tv354, tm354, tw354, te354⟩ := hJ.st (v' := s344.1) hch344 hr354 (fun _ _ _ => rfl) ht354 (xc_end hF hR344)
  refine x_icmp_eq (tgt := 2737) dL_law_357 (by decide) (fun b357 => ?_) (fun b357 => ?_)
  · exact hk _ _ _ _ _ hJ354 hN344 la354 lb354
  · exact absurd e354.symm b357
theorem cs_2 (hd : 100 ≤ d) (hJ : IV M s N len sc) (hN : N ≤ 900000000) (hi0 : 0 ≤ i ∧ i + 6 ≤ len) (hln : len ≤ 384) (hk : ∀ (M1 : Mem) (s1 : Sg) (N1 : Int) (o5 o6 : Option DV), IV M1 s1 N1 len sc → N1 ≤ N + 120 → mnx M1 ≤ mnx M + 1400 → mns M1 ≤ mns M + 6000 → WP G d mL_law 2737 [some (dR (-5)), some (dR 0), some (dR 744), some (dR 760), some (dI i), o5, o6] [] M1 Q) : WP G d mL_law 362 [some (dR (-5)), some (dR 0), some (dR 744), some (dR 760), some (dI i), none, none] [] M Q := by
  obtain ⟨v, n, A, hi, vi, tp, sz, fa⟩ := s
  obtain ⟨hC0, hT0, hF, h7, s5, hsc⟩ := id hJ
  have hC : CI M v n A hi vi tp sz fa N := hC0
  have s0 : msh M 0 = some (1, 0) := hC.1.1.1.1
  have hA : okA v := hC.2.1.1
  have hL : lawOK v := hC.2.1.2.1
  have hn : 0 ≤ n ∧ n ≤ 12 := hC.2.2.1.2.1
  have hz : 0 ≤ sz ∧ sz ≤ 400 := hC.2.2.2.2.2.1.2.2
  refine x_aload_n dL_law_362 rfl rfl ?_
  refine x_aload_n dL_law_363 rfl rfl ?_
  refine g_callI (vs := [_, _]) (d' := d - 1) rfl (uc_bench (by omega) h7 hC hF) dL_law_364 kX0_136 (by omega) (by decide) rfl (Nat.le_of_ble_eq_true rfl) (rcv_n) (fun x364 M364 h364 => ?_)
  obtain ⟨y364, s364, N364, hR364, hy364, hN364, hch364⟩ := h364
  obtain ⟨hT364, ⟨me364, mw364⟩, sf364, hs364, hok364, hX364⟩ := hJ.mid hch364
  have hI364 : TI M364 744 v n A hi vi tp sz fa := hT364
  refine x_istore (L' := [some _, some _, some _, some _, some _, some _, none]) dL_law_367 (by decide) rfl ?_
  refine x_aload_n dL_law_369 rfl rfl ?_
  refine g_callI (vs := [_]) (d' := d - 1) rfl (rc_bench (by omega) hI364 hX364 hR364) dL_law_370 kX0_141 (by omega) (by decide) rfl (Nat.le_of_ble_eq_true rfl) (rcv_o (by first | assumption | first | assumption | (simp (disch := omega) only [shI, shR, shL, shC, shD, shW, sh_V, shN_e, shN_n, crI, crL, crC, crW, crV, crR_e, crR_n, crN_e, crN_n, ciR, ciL, ciD, ciN_e, ciN_n, rdI_e, rdI_n, rdC_i, rdC_o, rdW, rdU_e, rdU_n, rdLW, clI, clR, clC, clD, clW, clV, clN_e, clN_n, clL_e, clL_n]; done) | (simp (disch := omega) only [shI, shR, shL, shC, shD, shW, sh_V, shN_e, shN_n, crI, crL, crC, crW, crV, crR_e, crR_n, crN_e, crN_n, ciR, ciL, ciD, ciN_e, ciN_n, rdI_e, rdI_n, rdC_i, rdC_o, rdW, rdU_e, rdU_n, rdLW, clI, clR, clC, clD, clW, clV, clN_e, clN_n, clL_e, clL_n] <;> first | assumption | rfl | omega)) rfl) (fun x370 M370 h370 => ?_)
  obtain ⟨e370, hb370, ⟨w370, hv370, ht370⟩, hr370⟩ := h370
  obtain ⟨hJ370, la370, lb370, tv370, tm370, tw370, te370⟩ := hJ.st (v' := w370) hch364 hr370 hv370 ht370 (xc_bench hF hA hz hR364)
  refine x_istore (L' := [some _, some _, some _, some _, some _, some _, some _]) dL_law_373 (by decide) rfl ?_
  refine x_aload_n dL_law_375 rfl rfl ?_
  refine g_callI (vs := [_]) (d' := d - 1) rfl (s_X8_thrown (by omega) tw370) dL_law_376 kX0_142 (by omega) (by decide) rfl (Nat.le_of_ble_eq_true rfl) (rcv_o (by first | assumption | first | assumption | (simp (disch := omega) only [shI, shR, shL, shC, shD, shW, sh_V, shN_e, shN_n, crI, crL, crC, crW, crV, crR_e, crR_n, crN_e, crN_n, ciR, ciL, ciD, ciN_e, ciN_n, rdI_e, rdI_n, rdC_i, rdC_o, rdW, rdU_e, rdU_n, rdLW, clI, clR, clC, clD, clW, clV, clN_e, clN_n, clL_e, clL_n]; done) | (simp (disch := omega) only [shI, shR, shL, shC, shD, shW, sh_V, shN_e, shN_n, crI, crL, crC, crW, crV, crR_e, crR_n, crN_e, crN_n, ciR, ciL, ciD, ciN_e, ciN_n, rdI_e, rdI_n, rdC_i, rdC_o, rdW, rdU_e, rdU_n, rdLW, clI, clR, clC, clD, clW, clV, clN_e, clN_n, clL_e, clL_n] <;> first | assumption | rfl | omega)) rfl) (fun x376 M376 h376 => ?_)
  obtain ⟨e376, f376⟩ := h376
  subst f376
  refine x_iload dL_law_379 rfl ?_
  refine x_icmp_eq (tgt := 386) dL_law_381 (by decide) (fun b381 => ?_) (fun b381 => ?_)
  · refine x_iload dL_law_386 rfl ?_
    refine x_if_ne (tgt := 403) dL_law_388 (by decide) (fun b388 => ?_) (fun b388 => ?_)
    · refine x_goto (tgt := 2737) dL_law_403 (by decide) ?_
      exact hk _ _ _ _ _ hJ370 hN364 la370 lb370
    · refine x_aload_n dL_law_391 rfl rfl ?_
      refine x_iconst dL_law_392 rfl ?_
      refine x_lald dL_law_393 (by first | assumption | first | assumption | (simp (disch := omega) only [shI, shR, shL, shC, shD, shW, sh_V, shN_e, shN_n, crI, crL, crC, crW, crV, crR_e, crR_n, crN_e, crN_n, ciR, ciL, ciD, ciN_e, ciN_n, rdI_e, rdI_n, rdC_i, rdC_o, rdW, rdU_e, rdU_n, rdLW, clI, clR, clC, clD, clW, clV, clN_e, clN_n, clL_e, clL_n]; done) | (simp (disch := omega) only [shI, shR, shL, shC, shD, shW, sh_V, shN_e, shN_n, crI, crL, crC, crW, crV, crR_e, crR_n, crN_e, crN_n, ciR, ciL, ciD, ciN_e, ciN_n, rdI_e, rdI_n, rdC_i, rdC_o, rdW, rdU_e, rdU_n, rdLW, clI, clR, clC, clD, clW, clV, clN_e, clN_n, clL_e, clL_n] <;> first | assumption | rfl | omega)) (by omega) (by omega) ?_
      refine x_iload dL_law_394 rfl ?_
      refine x_i2l dL_law_396 ?_
      refine x_lcmp dL_law_397 ?_
      refine x_if_eq (tgt := 403) dL_law_398 (by decide) (fun b398 => ?_) (fun b398 => ?_)
      · refine x_goto (tgt := 2737) dL_law_403 (by decide) ?_
        exact hk _ _ _ _ _ hJ370 hN364 la370 lb370
      · exact absurd (jlcmp_0.mpr (by have h0 : x364 = 0 := (by omega); have a1 := tm370; have a2 := hy364 h0; have a3 := hb370 h0; omega)) b398
  · exact absurd (e376.trans e370) b381
theorem cs_3 (hd : 100 ≤ d) (hJ : IV M s N len sc) (hN : N ≤ 900000000) (hi0 : 0 ≤ i ∧ i + 6 ≤ len) (hln : len ≤ 384) (hk : ∀ (M1 : Mem) (s1 : Sg) (N1 : Int) (o5 o6 : Option DV), IV M1 s1 N1 len sc → N1 ≤ N + 120 → mnx M1 ≤ mnx M + 1400 → mns M1 ≤ mns M + 6000 → WP G d mL_law 2737 [some (dR (-5)), some (dR 0), some (dR 744), some (dR 760), some (dI i), o5, o6] [] M1 Q) : WP G d mL_law 406 [some (dR (-5)), some (dR 0), some (dR 744), some (dR 760), some (dI i), none, none] [] M Q := by
  obtain ⟨v, n, A, hi, vi, tp, sz, fa⟩ := s
  obtain ⟨hC0, hT0, hF, h7, s5, hsc⟩ := id hJ
  have hC : CI M v n A hi vi tp sz fa N := hC0
  have s0 : msh M 0 = some (1, 0) := hC.1.1.1.1
  have hA : okA v := hC.2.1.1
  have hL : lawOK v := hC.2.1.2.1
  have hn : 0 ≤ n ∧ n ≤ 12 := hC.2.2.1.2.1
  refine x_aload_n dL_law_406 rfl rfl ?_
  refine x_aload_n dL_law_407 rfl rfl ?_
  refine g_callI (vs := [_, _]) (d' := d - 1) rfl (uc_law (by omega) h7 hC hF) dL_law_408 kX0_145 (by omega) (by decide) rfl (Nat.le_of_ble_eq_true rfl) (rcv_n) (fun x408 M408 h408 => ?_)
  obtain ⟨y408, s408, N408, hR408, hy408, hN408, hch408⟩ := h408
  obtain ⟨hT408, ⟨me408, mw408⟩, sf408, hs408, hok408, hX408⟩ := hJ.mid hch408
  have hI408 : TI M408 744 v n A hi vi tp sz fa := hT408
  refine x_istore (L' := [some _, some _, some _, some _, some _, some _, none]) dL_law_411 (by decide) rfl ?_
  refine x_aload_n dL_law_413 rfl rfl ?_
  refine g_callI (vs := [_]) (d' := d - 1) rfl (rc_law (by omega) hI408 hX408 hR408) dL_law_414 kX0_147 (by omega) (by decide) rfl (Nat.le_of_ble_eq_true rfl) (rcv_o (by first | assumption | first | assumption | (simp (disch := omega) only [shI, shR, shL, shC, shD, shW, sh_V, shN_e, shN_n, crI, crL, crC, crW, crV, crR_e, crR_n, crN_e, crN_n, ciR, ciL, ciD, ciN_e, ciN_n, rdI_e, rdI_n, rdC_i, rdC_o, rdW, rdU_e, rdU_n, rdLW, clI, clR, clC, clD, clW, clV, clN_e, clN_n, clL_e, clL_n]; done) | (simp (disch := omega) only [shI, shR, shL, shC, shD, shW, sh_V, shN_e, shN_n, crI, crL, crC, crW, crV, crR_e, crR_n, crN_e, crN_n, ciR, ciL, ciD, ciN_e, ciN_n, rdI_e, rdI_n, rdC_i, rdC_o, rdW, rdU_e, rdU_n, rdLW, clI, clR, clC, clD, clW, clV, clN_e, clN_n, clL_e, clL_n] <;> first | assumption | rfl | omega)) rfl) (fun x414 M414 h414 => ?_)
  obtain ⟨e414, hb414, ⟨w414, hv414, ht414⟩, hr414⟩ := h414
  obtain ⟨hJ414, la414, lb414, tv414, tm414, tw414, te414⟩ := hJ.st (v' := w414) hch408 hr414 hv414 ht414 (xc_law hF hR408)
  refine x_istore (L' := [some _, some _, some _, some _, some _, some _, some _]) dL_law_417 (by decide) rfl ?_
  refine x_aload_n dL_law_419 rfl rfl ?_
  refine g_callI (vs := [_]) (d' := d - 1) rfl (s_X8_thrown (by omega) tw414) dL_law_420 kX0_142 (by omega) (by decide) rfl (Nat.le_of_ble_eq_true rfl) (rcv_o (by first | assumption | first | assumption | (simp (disch := omega) only [shI, shR, shL, shC, shD, shW, sh_V, shN_e, shN_n, crI, crL, crC, crW, crV, crR_e, crR_n, crN_e, crN_n, ciR, ciL, ciD, ciN_e, ciN_n, rdI_e, rdI_n, rdC_i, rdC_o, rdW, rdU_e, rdU_n, rdLW, clI, clR, clC, clD, clW, clV, clN_e, clN_n, clL_e, clL_n]; done) | (simp (disch := omega) only [shI, shR, shL, shC, shD, shW, sh_V, shN_e, shN_n, crI, crL, crC, crW, crV, crR_e, crR_n, crN_e, crN_n, ciR, ciL, ciD, ciN_e, ciN_n, rdI_e, rdI_n, rdC_i, rdC_o, rdW, rdU_e, rdU_n, rdLW, clI, clR, clC, clD, clW, clV, clN_e, clN_n, clL_e, clL_n] <;> first | assumption | rfl | omega)) rfl) (fun x420 M420 h420 => ?_)
  obtain ⟨e420, f420⟩ := h420
  subst f420
  refine x_iload dL_law_423 rfl ?_
  refine x_icmp_eq (tgt := 430) dL_law_425 (by decide) (fun b425 => ?_) (fun b425 => ?_)
  · refine x_iload dL_law_430 rfl ?_
    refine x_if_ne (tgt := 447) dL_law_432 (by decide) (fun b432 => ?_) (fun b432 => ?_)
    · refine x_goto (tgt := 2737) dL_law_447 (by decide) ?_
      exact hk _ _ _ _ _ hJ414 hN408 la414 lb414
    · refine x_aload_n dL_law_435 rfl rfl ?_
      refine x_iconst dL_law_436 rfl ?_
      refine x_lald dL_law_437 (by first | assumption | first | assumption | (simp (disch := omega) only [shI, shR, shL, shC, shD, shW, sh_V, shN_e, shN_n, crI, crL, crC, crW, crV, crR_e, crR_n, crN_e, crN_n, ciR, ciL, ciD, ciN_e, ciN_n, rdI_e, rdI_n, rdC_i, rdC_o, rdW, rdU_e, rdU_n, rdLW, clI, clR, clC, clD, clW, clV, clN_e, clN_n, clL_e, clL_n]; done) | (simp (disch := omega) only [shI, shR, shL, shC, shD, shW, sh_V, shN_e, shN_n, crI, crL, crC, crW, crV, crR_e, crR_n, crN_e, crN_n, ciR, ciL, ciD, ciN_e, ciN_n, rdI_e, rdI_n, rdC_i, rdC_o, rdW, rdU_e, rdU_n, rdLW, clI, clR, clC, clD, clW, clV, clN_e, clN_n, clL_e, clL_n] <;> first | assumption | rfl | omega)) (by omega) (by omega) ?_
      refine x_iload dL_law_438 rfl ?_
      refine x_i2l dL_law_440 ?_
      refine x_lcmp dL_law_441 ?_
      refine x_if_eq (tgt := 447) dL_law_442 (by decide) (fun b442 => ?_) (fun b442 => ?_)
      · refine x_goto (tgt := 2737) dL_law_447 (by decide) ?_
        exact hk _ _ _ _ _ hJ414 hN408 la414 lb414
      · exact absurd (jlcmp_0.mpr (by have h0 : x408 = 0 := (by omega); have a1 := tm414; have a2 := hy408 h0; have a3 := hb414 h0; omega)) b442
  · exact absurd (e420.trans e414) b425
theorem cs_4 (hd : 100 ≤ d) (hJ : IV M s N len sc) (hN : N ≤ 900000000) (hi0 : 0 ≤ i ∧ i + 6 ≤ len) (hln : len ≤ 384) (hk : ∀ (M1 : Mem) (s1 : Sg) (N1 : Int) (o5 o6 : Option DV), IV M1 s1 N1 len sc → N1 ≤ N + 120 → mnx M1 ≤ mnx M + 1400 → mns M1 ≤ mns M + 6000 → WP G d mL_law 2737 [some (dR (-5)), some (dR 0), some (dR 744), some (dR 760), some (dI i), o5, o6] [] M1 Q) : WP G d mL_law 450 [some (dR (-5)), some (dR 0), some (dR 744), some (dR 760), some (dI i), none, none] [] M Q := by
  obtain ⟨v, n, A, hi, vi, tp, sz, fa⟩ := s
  obtain ⟨hC0, hT0, hF, h7, s5, hsc⟩ := id hJ
  have hC : CI M v n A hi vi tp sz fa N := hC0
  have s0 : msh M 0 = some (1, 0) := hC.1.1.1.1
  have hA : okA v := hC.2.1.1
  have hL : lawOK v := hC.2.1.2.1
  have hn : 0 ≤ n ∧ n ≤ 12 := hC.2.2.1.2.1
  refine x_aload_n dL_law_450 rfl rfl ?_
  refine g_callI (vs := [_]) (d' := d - 1) rfl (uc_fault (by omega) h7 hC) dL_law_451 kX0_148 (by omega) (by decide) rfl (Nat.le_of_ble_eq_true rfl) (rcv_o (by first | assumption | first | assumption | (simp (disch := omega) only [shI, shR, shL, shC, shD, shW, sh_V, shN_e, shN_n, crI, crL, crC, crW, crV, crR_e, crR_n, crN_e, crN_n, ciR, ciL, ciD, ciN_e, ciN_n, rdI_e, rdI_n, rdC_i, rdC_o, rdW, rdU_e, rdU_n, rdLW, clI, clR, clC, clD, clW, clV, clN_e, clN_n, clL_e, clL_n]; done) | (simp (disch := omega) only [shI, shR, shL, shC, shD, shW, sh_V, shN_e, shN_n, crI, crL, crC, crW, crV, crR_e, crR_n, crN_e, crN_n, ciR, ciL, ciD, ciN_e, ciN_n, rdI_e, rdI_n, rdC_i, rdC_o, rdW, rdU_e, rdU_n, rdLW, clI, clR, clC, clD, clW, clV, clN_e, clN_n, clL_e, clL_n] <;> first | assumption | rfl | omega)) rfl) (fun x451 M451 h451 => ?_)
  obtain ⟨s451, N451, hR451, hN451, hch451⟩ := h451
  obtain ⟨hT451, ⟨me451, mw451⟩, sf451, hs451, hok451, hX451⟩ := hJ.mid hch451
  have hI451 : TI M451 744 v n A hi vi tp sz fa := hT451
  refine x_aload_n dL_law_454 rfl rfl ?_
  refine g_callI (vs := [_]) (d' := d - 1) rfl (rc_fault (by omega) hI451 hR451) dL_law_455 kX0_151 (by omega) (by decide) rfl (Nat.le_of_ble_eq_true rfl) (rcv_o (by first | assumption | first | assumption | (simp (disch := omega) only [shI, shR, shL, shC, shD, shW, sh_V, shN_e, shN_n, crI, crL, crC, crW, crV, crR_e, crR_n, crN_e, crN_n, ciR, ciL, ciD, ciN_e, ciN_n, rdI_e, rdI_n, rdC_i, rdC_o, rdW, rdU_e, rdU_n, rdLW, clI, clR, clC, clD, clW, clV, clN_e, clN_n, clL_e, clL_n]; done) | (simp (disch := omega) only [shI, shR, shL, shC, shD, shW, sh_V, shN_e, shN_n, crI, crL, crC, crW, crV, crR_e, crR_n, crN_e, crN_n, ciR, ciL, ciD, ciN_e, ciN_n, rdI_e, rdI_n, rdC_i, rdC_o, rdW, rdU_e, rdU_n, rdLW, clI, clR, clC, clD, clW, clV, clN_e, clN_n, clL_e, clL_n] <;> first | assumption | rfl | omega)) rfl) (fun x455 M455 h455 => ?_)
  obtain ⟨e455, ht455, hr455⟩ := h455
  obtain ⟨hJ455, la455, lb455, tv455, tm455, tw455, te455⟩ := hJ.st (v' := s451.1) hch451 hr455 (fun _ _ _ => rfl) ht455 (xc_fault hF hA hL hn hR451)
  refine x_icmp_eq (tgt := 2737) dL_law_458 (by decide) (fun b458 => ?_) (fun b458 => ?_)
  · exact hk _ _ _ _ _ hJ455 hN451 la455 lb455
  · exact absurd e455.symm b458
theorem cs_5 (hd : 100 ≤ d) (hJ : IV M s N len sc) (hN : N ≤ 900000000) (hi0 : 0 ≤ i ∧ i + 6 ≤ len) (hln : len ≤ 384) (hk : ∀ (M1 : Mem) (s1 : Sg) (N1 : Int) (o5 o6 : Option DV), IV M1 s1 N1 len sc → N1 ≤ N + 120 → mnx M1 ≤ mnx M + 1400 → mns M1 ≤ mns M + 6000 → WP G d mL_law 2737 [some (dR (-5)), some (dR 0), some (dR 744), some (dR 760), some (dI i), o5, o6] [] M1 Q) : WP G d mL_law 463 [some (dR (-5)), some (dR 0), some (dR 744), some (dR 760), some (dI i), none, none] [] M Q := by
  obtain ⟨v, n, A, hi, vi, tp, sz, fa⟩ := s
  obtain ⟨hC0, hT0, hF, h7, s5, hsc⟩ := id hJ
  have hC : CI M v n A hi vi tp sz fa N := hC0
  have s0 : msh M 0 = some (1, 0) := hC.1.1.1.1
  have hA : okA v := hC.2.1.1
  have hL : lawOK v := hC.2.1.2.1
  have hn : 0 ≤ n ∧ n ≤ 12 := hC.2.2.1.2.1
  refine x_aload_n dL_law_463 rfl rfl ?_
  refine x_aload_n dL_law_464 rfl rfl ?_
  refine x_iload dL_law_465 rfl ?_
  refine x_iconst dL_law_467 rfl ?_
  first | refine x_iaddN dL_law_468 (by unfold i32; omega) ?_ | refine x_iadd dL_law_468 ?_
  refine x_iald dL_law_469 (by first | assumption | first | assumption | (simp (disch := omega) only [shI, shR, shL, shC, shD, shW, sh_V, shN_e, shN_n, crI, crL, crC, crW, crV, crR_e, crR_n, crN_e, crN_n, ciR, ciL, ciD, ciN_e, ciN_n, rdI_e, rdI_n, rdC_i, rdC_o, rdW, rdU_e, rdU_n, rdLW, clI, clR, clC, clD, clW, clV, clN_e, clN_n, clL_e, clL_n]; done) | (simp (disch := omega) only [shI, shR, shL, shC, shD, shW, sh_V, shN_e, shN_n, crI, crL, crC, crW, crV, crR_e, crR_n, crN_e, crN_n, ciR, ciL, ciD, ciN_e, ciN_n, rdI_e, rdI_n, rdC_i, rdC_o, rdW, rdU_e, rdU_n, rdLW, clI, clR, clC, clD, clW, clV, clN_e, clN_n, clL_e, clL_n] <;> first | assumption | rfl | omega)) (by omega) (by omega) ?_
  rw [hsc]
  refine x_aload_n dL_law_470 rfl rfl ?_
  refine x_iload dL_law_471 rfl ?_
  refine x_iconst dL_law_473 rfl ?_
  first | refine x_iaddN dL_law_474 (by unfold i32; omega) ?_ | refine x_iadd dL_law_474 ?_
  refine x_iald dL_law_475 (by first | assumption | first | assumption | (simp (disch := omega) only [shI, shR, shL, shC, shD, shW, sh_V, shN_e, shN_n, crI, crL, crC, crW, crV, crR_e, crR_n, crN_e, crN_n, ciR, ciL, ciD, ciN_e, ciN_n, rdI_e, rdI_n, rdC_i, rdC_o, rdW, rdU_e, rdU_n, rdLW, clI, clR, clC, clD, clW, clV, clN_e, clN_n, clL_e, clL_n]; done) | (simp (disch := omega) only [shI, shR, shL, shC, shD, shW, sh_V, shN_e, shN_n, crI, crL, crC, crW, crV, crR_e, crR_n, crN_e, crN_n, ciR, ciL, ciD, ciN_e, ciN_n, rdI_e, rdI_n, rdC_i, rdC_o, rdW, rdU_e, rdU_n, rdLW, clI, clR, clC, clD, clW, clV, clN_e, clN_n, clL_e, clL_n] <;> first | assumption | rfl | omega)) (by omega) (by omega) ?_
  rw [hsc]
  refine x_aload_n dL_law_476 rfl rfl ?_
  refine g_callI (vs := [_, _, _, _]) (d' := d - 1) rfl (uc_op (by omega) h7 hC) dL_law_477 kX0_152 (by omega) (by decide) rfl (Nat.le_of_ble_eq_true rfl) (rcv_n) (fun x477 M477 h477 => ?_)
  obtain ⟨y477, s477, N477, hR477, hy477, hN477, hch477⟩ := h477
  obtain ⟨hT477, ⟨me477, mw477⟩, sf477, hs477, hok477, hX477⟩ := hJ.mid hch477
  have hI477 : TI M477 744 v n A hi vi tp sz fa := hT477
  refine x_istore (L' := [some _, some _, some _, some _, some _, some _, none]) dL_law_480 (by decide) rfl ?_
  refine x_aload_n dL_law_482 rfl rfl ?_
  refine x_aload_n dL_law_483 rfl rfl ?_
  refine x_iload dL_law_484 rfl ?_
  refine x_iconst dL_law_486 rfl ?_
  first | refine x_iaddN dL_law_487 (by unfold i32; omega) ?_ | refine x_iadd dL_law_487 ?_
  refine x_iald dL_law_488 (by first | assumption | first | assumption | (simp (disch := omega) only [shI, shR, shL, shC, shD, shW, sh_V, shN_e, shN_n, crI, crL, crC, crW, crV, crR_e, crR_n, crN_e, crN_n, ciR, ciL, ciD, ciN_e, ciN_n, rdI_e, rdI_n, rdC_i, rdC_o, rdW, rdU_e, rdU_n, rdLW, clI, clR, clC, clD, clW, clV, clN_e, clN_n, clL_e, clL_n]; done) | (simp (disch := omega) only [shI, shR, shL, shC, shD, shW, sh_V, shN_e, shN_n, crI, crL, crC, crW, crV, crR_e, crR_n, crN_e, crN_n, ciR, ciL, ciD, ciN_e, ciN_n, rdI_e, rdI_n, rdC_i, rdC_o, rdW, rdU_e, rdU_n, rdLW, clI, clR, clC, clD, clW, clV, clN_e, clN_n, clL_e, clL_n] <;> first | assumption | rfl | omega)) (by omega) (by omega) ?_
  rw [hs477]
  refine x_aload_n dL_law_489 rfl rfl ?_
  refine x_iload dL_law_490 rfl ?_
  refine x_iconst dL_law_492 rfl ?_
  first | refine x_iaddN dL_law_493 (by unfold i32; omega) ?_ | refine x_iadd dL_law_493 ?_
  refine x_iald dL_law_494 (by first | assumption | first | assumption | (simp (disch := omega) only [shI, shR, shL, shC, shD, shW, sh_V, shN_e, shN_n, crI, crL, crC, crW, crV, crR_e, crR_n, crN_e, crN_n, ciR, ciL, ciD, ciN_e, ciN_n, rdI_e, rdI_n, rdC_i, rdC_o, rdW, rdU_e, rdU_n, rdLW, clI, clR, clC, clD, clW, clV, clN_e, clN_n, clL_e, clL_n]; done) | (simp (disch := omega) only [shI, shR, shL, shC, shD, shW, sh_V, shN_e, shN_n, crI, crL, crC, crW, crV, crR_e, crR_n, crN_e, crN_n, ciR, ciL, ciD, ciN_e, ciN_n, rdI_e, rdI_n, rdC_i, rdC_o, rdW, rdU_e, rdU_n, rdLW, clI, clR, clC, clD, clW, clV, clN_e, clN_n, clL_e, clL_n] <;> first | assumption | rfl | omega)) (by omega) (by omega) ?_
  rw [hs477]
  refine g_callI (vs := [_, _, _]) (d' := d - 1) rfl (rc_op (by omega) hI477 hR477) dL_law_495 kX0_155 (by omega) (by decide) rfl (Nat.le_of_ble_eq_true rfl) (rcv_o (by first | assumption | first | assumption | (simp (disch := omega) only [shI, shR, shL, shC, shD, shW, sh_V, shN_e, shN_n, crI, crL, crC, crW, crV, crR_e, crR_n, crN_e, crN_n, ciR, ciL, ciD, ciN_e, ciN_n, rdI_e, rdI_n, rdC_i, rdC_o, rdW, rdU_e, rdU_n, rdLW, clI, clR, clC, clD, clW, clV, clN_e, clN_n, clL_e, clL_n]; done) | (simp (disch := omega) only [shI, shR, shL, shC, shD, shW, sh_V, shN_e, shN_n, crI, crL, crC, crW, crV, crR_e, crR_n, crN_e, crN_n, ciR, ciL, ciD, ciN_e, ciN_n, rdI_e, rdI_n, rdC_i, rdC_o, rdW, rdU_e, rdU_n, rdLW, clI, clR, clC, clD, clW, clV, clN_e, clN_n, clL_e, clL_n] <;> first | assumption | rfl | omega)) rfl) (fun x495 M495 h495 => ?_)
  obtain ⟨e495, hb495, ⟨w495, hv495, ht495⟩, hr495⟩ := h495
  obtain ⟨hJ495, la495, lb495, tv495, tm495, tw495, te495⟩ := hJ.st (v' := w495) hch477 hr495 hv495 ht495 (xc_op hF hA hL hn hR477)
  refine x_istore (L' := [some _, some _, some _, some _, some _, some _, some _]) dL_law_498 (by decide) rfl ?_
  refine x_aload_n dL_law_500 rfl rfl ?_
  refine g_callI (vs := [_]) (d' := d - 1) rfl (s_X8_thrown (by omega) tw495) dL_law_501 kX0_142 (by omega) (by decide) rfl (Nat.le_of_ble_eq_true rfl) (rcv_o (by first | assumption | first | assumption | (simp (disch := omega) only [shI, shR, shL, shC, shD, shW, sh_V, shN_e, shN_n, crI, crL, crC, crW, crV, crR_e, crR_n, crN_e, crN_n, ciR, ciL, ciD, ciN_e, ciN_n, rdI_e, rdI_n, rdC_i, rdC_o, rdW, rdU_e, rdU_n, rdLW, clI, clR, clC, clD, clW, clV, clN_e, clN_n, clL_e, clL_n]; done) | (simp (disch := omega) only [shI, shR, shL, shC, shD, shW, sh_V, shN_e, shN_n, crI, crL, crC, crW, crV, crR_e, crR_n, crN_e, crN_n, ciR, ciL, ciD, ciN_e, ciN_n, rdI_e, rdI_n, rdC_i, rdC_o, rdW, rdU_e, rdU_n, rdLW, clI, clR, clC, clD, clW, clV, clN_e, clN_n, clL_e, clL_n] <;> first | assumption | rfl | omega)) rfl) (fun x501 M501 h501 => ?_)
  obtain ⟨e501, f501⟩ := h501
  subst f501
  refine x_iload dL_law_504 rfl ?_
  refine x_icmp_eq (tgt := 511) dL_law_506 (by decide) (fun b506 => ?_) (fun b506 => ?_)
  · refine x_iload dL_law_511 rfl ?_
    refine x_if_ne (tgt := 528) dL_law_513 (by decide) (fun b513 => ?_) (fun b513 => ?_)
    · refine x_goto (tgt := 2737) dL_law_528 (by decide) ?_
      exact hk _ _ _ _ _ hJ495 hN477 la495 lb495
    · refine x_aload_n dL_law_516 rfl rfl ?_
      refine x_iconst dL_law_517 rfl ?_
      refine x_lald dL_law_518 (by first | assumption | first | assumption | (simp (disch := omega) only [shI, shR, shL, shC, shD, shW, sh_V, shN_e, shN_n, crI, crL, crC, crW, crV, crR_e, crR_n, crN_e, crN_n, ciR, ciL, ciD, ciN_e, ciN_n, rdI_e, rdI_n, rdC_i, rdC_o, rdW, rdU_e, rdU_n, rdLW, clI, clR, clC, clD, clW, clV, clN_e, clN_n, clL_e, clL_n]; done) | (simp (disch := omega) only [shI, shR, shL, shC, shD, shW, sh_V, shN_e, shN_n, crI, crL, crC, crW, crV, crR_e, crR_n, crN_e, crN_n, ciR, ciL, ciD, ciN_e, ciN_n, rdI_e, rdI_n, rdC_i, rdC_o, rdW, rdU_e, rdU_n, rdLW, clI, clR, clC, clD, clW, clV, clN_e, clN_n, clL_e, clL_n] <;> first | assumption | rfl | omega)) (by omega) (by omega) ?_
      refine x_iload dL_law_519 rfl ?_
      refine x_i2l dL_law_521 ?_
      refine x_lcmp dL_law_522 ?_
      refine x_if_eq (tgt := 528) dL_law_523 (by decide) (fun b523 => ?_) (fun b523 => ?_)
      · refine x_goto (tgt := 2737) dL_law_528 (by decide) ?_
        exact hk _ _ _ _ _ hJ495 hN477 la495 lb495
      · exact absurd (jlcmp_0.mpr (by have h0 : x477 = 0 := (by omega); have a1 := tm495; have a2 := hy477 h0; have a3 := hb495 h0; omega)) b523
  · exact absurd (e501.trans e495) b506
theorem cs_6 (hd : 100 ≤ d) (hJ : IV M s N len sc) (hN : N ≤ 900000000) (hi0 : 0 ≤ i ∧ i + 6 ≤ len) (hln : len ≤ 384) (hk : ∀ (M1 : Mem) (s1 : Sg) (N1 : Int) (o5 o6 : Option DV), IV M1 s1 N1 len sc → N1 ≤ N + 120 → mnx M1 ≤ mnx M + 1400 → mns M1 ≤ mns M + 6000 → WP G d mL_law 2737 [some (dR (-5)), some (dR 0), some (dR 744), some (dR 760), some (dI i), o5, o6] [] M1 Q) : WP G d mL_law 531 [some (dR (-5)), some (dR 0), some (dR 744), some (dR 760), some (dI i), none, none] [] M Q := by
  obtain ⟨v, n, A, hi, vi, tp, sz, fa⟩ := s
  obtain ⟨hC0, hT0, hF, h7, s5, hsc⟩ := id hJ
  have hC : CI M v n A hi vi tp sz fa N := hC0
  have s0 : msh M 0 = some (1, 0) := hC.1.1.1.1
  have hA : okA v := hC.2.1.1
  have hL : lawOK v := hC.2.1.2.1
  have hn : 0 ≤ n ∧ n ≤ 12 := hC.2.2.1.2.1
  by_cases hz : sc (i + 3) = 0
  · refine x_aload_n dL_law_531 rfl rfl ?_
    refine x_aload_n dL_law_532 rfl rfl ?_
    refine x_iload dL_law_533 rfl ?_
    refine x_iconst dL_law_535 rfl ?_
    first | refine x_iaddN dL_law_536 (by unfold i32; omega) ?_ | refine x_iadd dL_law_536 ?_
    refine x_iald dL_law_537 (by first | assumption | first | assumption | (simp (disch := omega) only [shI, shR, shL, shC, shD, shW, sh_V, shN_e, shN_n, crI, crL, crC, crW, crV, crR_e, crR_n, crN_e, crN_n, ciR, ciL, ciD, ciN_e, ciN_n, rdI_e, rdI_n, rdC_i, rdC_o, rdW, rdU_e, rdU_n, rdLW, clI, clR, clC, clD, clW, clV, clN_e, clN_n, clL_e, clL_n]; done) | (simp (disch := omega) only [shI, shR, shL, shC, shD, shW, sh_V, shN_e, shN_n, crI, crL, crC, crW, crV, crR_e, crR_n, crN_e, crN_n, ciR, ciL, ciD, ciN_e, ciN_n, rdI_e, rdI_n, rdC_i, rdC_o, rdW, rdU_e, rdU_n, rdLW, clI, clR, clC, clD, clW, clV, clN_e, clN_n, clL_e, clL_n] <;> first | assumption | rfl | omega)) (by omega) (by omega) ?_
    rw [hsc]
    refine x_aload_n dL_law_538 rfl rfl ?_
    refine x_iload dL_law_539 rfl ?_
    refine x_iconst dL_law_541 rfl ?_
    first | refine x_iaddN dL_law_542 (by unfold i32; omega) ?_ | refine x_iadd dL_law_542 ?_
    refine x_iald dL_law_543 (by first | assumption | first | assumption | (simp (disch := omega) only [shI, shR, shL, shC, shD, shW, sh_V, shN_e, shN_n, crI, crL, crC, crW, crV, crR_e, crR_n, crN_e, crN_n, ciR, ciL, ciD, ciN_e, ciN_n, rdI_e, rdI_n, rdC_i, rdC_o, rdW, rdU_e, rdU_n, rdLW, clI, clR, clC, clD, clW, clV, clN_e, clN_n, clL_e, clL_n]; done) | (simp (disch := omega) only [shI, shR, shL, shC, shD, shW, sh_V, shN_e, shN_n, crI, crL, crC, crW, crV, crR_e, crR_n, crN_e, crN_n, ciR, ciL, ciD, ciN_e, ciN_n, rdI_e, rdI_n, rdC_i, rdC_o, rdW, rdU_e, rdU_n, rdLW, clI, clR, clC, clD, clW, clV, clN_e, clN_n, clL_e, clL_n] <;> first | assumption | rfl | omega)) (by omega) (by omega) ?_
    rw [hsc]
    refine x_aload_n dL_law_544 rfl rfl ?_
    refine x_iload dL_law_545 rfl ?_
    refine x_iconst dL_law_547 rfl ?_
    first | refine x_iaddN dL_law_548 (by unfold i32; omega) ?_ | refine x_iadd dL_law_548 ?_
    refine x_iald dL_law_549 (by first | assumption | first | assumption | (simp (disch := omega) only [shI, shR, shL, shC, shD, shW, sh_V, shN_e, shN_n, crI, crL, crC, crW, crV, crR_e, crR_n, crN_e, crN_n, ciR, ciL, ciD, ciN_e, ciN_n, rdI_e, rdI_n, rdC_i, rdC_o, rdW, rdU_e, rdU_n, rdLW, clI, clR, clC, clD, clW, clV, clN_e, clN_n, clL_e, clL_n]; done) | (simp (disch := omega) only [shI, shR, shL, shC, shD, shW, sh_V, shN_e, shN_n, crI, crL, crC, crW, crV, crR_e, crR_n, crN_e, crN_n, ciR, ciL, ciD, ciN_e, ciN_n, rdI_e, rdI_n, rdC_i, rdC_o, rdW, rdU_e, rdU_n, rdLW, clI, clR, clC, clD, clW, clV, clN_e, clN_n, clL_e, clL_n] <;> first | assumption | rfl | omega)) (by omega) (by omega) ?_
    rw [hsc]
    refine x_if_eq (tgt := 557) dL_law_550 (by decide) (fun b550 => ?_) (fun b550 => ?_)
    · refine x_iconst dL_law_557 rfl ?_
      refine x_aload_n dL_law_558 rfl rfl ?_
      refine g_callI (vs := [_, _, _, _, _]) (d' := d - 1) rfl (uc_micro (by omega) h7 hC) dL_law_559 kX0_156 (by omega) (by decide) rfl (Nat.le_of_ble_eq_true rfl) (rcv_n) (fun x559 M559 h559 => ?_)
      obtain ⟨y559, s559, N559, hR559, hy559, hN559, hch559⟩ := h559
      obtain ⟨hT559, ⟨me559, mw559⟩, sf559, hs559, hok559, hX559⟩ := hJ.mid hch559
      have hI559 : TI M559 744 v n A hi vi tp sz fa := hT559
      refine x_istore (L' := [some _, some _, some _, some _, some _, some _, none]) dL_law_562 (by decide) rfl ?_
      refine x_aload_n dL_law_564 rfl rfl ?_
      refine x_aload_n dL_law_565 rfl rfl ?_
      refine x_iload dL_law_566 rfl ?_
      refine x_iconst dL_law_568 rfl ?_
      first | refine x_iaddN dL_law_569 (by unfold i32; omega) ?_ | refine x_iadd dL_law_569 ?_
      refine x_iald dL_law_570 (by first | assumption | first | assumption | (simp (disch := omega) only [shI, shR, shL, shC, shD, shW, sh_V, shN_e, shN_n, crI, crL, crC, crW, crV, crR_e, crR_n, crN_e, crN_n, ciR, ciL, ciD, ciN_e, ciN_n, rdI_e, rdI_n, rdC_i, rdC_o, rdW, rdU_e, rdU_n, rdLW, clI, clR, clC, clD, clW, clV, clN_e, clN_n, clL_e, clL_n]; done) | (simp (disch := omega) only [shI, shR, shL, shC, shD, shW, sh_V, shN_e, shN_n, crI, crL, crC, crW, crV, crR_e, crR_n, crN_e, crN_n, ciR, ciL, ciD, ciN_e, ciN_n, rdI_e, rdI_n, rdC_i, rdC_o, rdW, rdU_e, rdU_n, rdLW, clI, clR, clC, clD, clW, clV, clN_e, clN_n, clL_e, clL_n] <;> first | assumption | rfl | omega)) (by omega) (by omega) ?_
      rw [hs559]
      refine x_aload_n dL_law_571 rfl rfl ?_
      refine x_iload dL_law_572 rfl ?_
      refine x_iconst dL_law_574 rfl ?_
      first | refine x_iaddN dL_law_575 (by unfold i32; omega) ?_ | refine x_iadd dL_law_575 ?_
      refine x_iald dL_law_576 (by first | assumption | first | assumption | (simp (disch := omega) only [shI, shR, shL, shC, shD, shW, sh_V, shN_e, shN_n, crI, crL, crC, crW, crV, crR_e, crR_n, crN_e, crN_n, ciR, ciL, ciD, ciN_e, ciN_n, rdI_e, rdI_n, rdC_i, rdC_o, rdW, rdU_e, rdU_n, rdLW, clI, clR, clC, clD, clW, clV, clN_e, clN_n, clL_e, clL_n]; done) | (simp (disch := omega) only [shI, shR, shL, shC, shD, shW, sh_V, shN_e, shN_n, crI, crL, crC, crW, crV, crR_e, crR_n, crN_e, crN_n, ciR, ciL, ciD, ciN_e, ciN_n, rdI_e, rdI_n, rdC_i, rdC_o, rdW, rdU_e, rdU_n, rdLW, clI, clR, clC, clD, clW, clV, clN_e, clN_n, clL_e, clL_n] <;> first | assumption | rfl | omega)) (by omega) (by omega) ?_
      rw [hs559]
      refine x_aload_n dL_law_577 rfl rfl ?_
      refine x_iload dL_law_578 rfl ?_
      refine x_iconst dL_law_580 rfl ?_
      first | refine x_iaddN dL_law_581 (by unfold i32; omega) ?_ | refine x_iadd dL_law_581 ?_
      refine x_iald dL_law_582 (by first | assumption | first | assumption | (simp (disch := omega) only [shI, shR, shL, shC, shD, shW, sh_V, shN_e, shN_n, crI, crL, crC, crW, crV, crR_e, crR_n, crN_e, crN_n, ciR, ciL, ciD, ciN_e, ciN_n, rdI_e, rdI_n, rdC_i, rdC_o, rdW, rdU_e, rdU_n, rdLW, clI, clR, clC, clD, clW, clV, clN_e, clN_n, clL_e, clL_n]; done) | (simp (disch := omega) only [shI, shR, shL, shC, shD, shW, sh_V, shN_e, shN_n, crI, crL, crC, crW, crV, crR_e, crR_n, crN_e, crN_n, ciR, ciL, ciD, ciN_e, ciN_n, rdI_e, rdI_n, rdC_i, rdC_o, rdW, rdU_e, rdU_n, rdLW, clI, clR, clC, clD, clW, clV, clN_e, clN_n, clL_e, clL_n] <;> first | assumption | rfl | omega)) (by omega) (by omega) ?_
      rw [hs559]
      refine x_if_eq (tgt := 590) dL_law_583 (by decide) (fun b583 => ?_) (fun b583 => ?_)
      · refine x_iconst dL_law_590 rfl ?_
        refine g_callI (vs := [_, _, _, _]) (d' := d - 1) rfl (rc_micro (by omega) hI559 hR559) dL_law_591 kX0_159 (by omega) (by decide) rfl (Nat.le_of_ble_eq_true rfl) (rcv_o (by first | assumption | first | assumption | (simp (disch := omega) only [shI, shR, shL, shC, shD, shW, sh_V, shN_e, shN_n, crI, crL, crC, crW, crV, crR_e, crR_n, crN_e, crN_n, ciR, ciL, ciD, ciN_e, ciN_n, rdI_e, rdI_n, rdC_i, rdC_o, rdW, rdU_e, rdU_n, rdLW, clI, clR, clC, clD, clW, clV, clN_e, clN_n, clL_e, clL_n]; done) | (simp (disch := omega) only [shI, shR, shL, shC, shD, shW, sh_V, shN_e, shN_n, crI, crL, crC, crW, crV, crR_e, crR_n, crN_e, crN_n, ciR, ciL, ciD, ciN_e, ciN_n, rdI_e, rdI_n, rdC_i, rdC_o, rdW, rdU_e, rdU_n, rdLW, clI, clR, clC, clD, clW, clV, clN_e, clN_n, clL_e, clL_n] <;> first | assumption | rfl | omega)) rfl) (fun x591 M591 h591 => ?_)
        obtain ⟨e591, hb591, ⟨w591, hv591, ht591⟩, hr591⟩ := h591
        obtain ⟨hJ591, la591, lb591, tv591, tm591, tw591, te591⟩ := hJ.st (v' := w591) hch559 hr591 hv591 ht591 (xc_micro hF hA hL hn hR559)
        refine x_istore (L' := [some _, some _, some _, some _, some _, some _, some _]) dL_law_594 (by decide) rfl ?_
        refine x_aload_n dL_law_596 rfl rfl ?_
        refine g_callI (vs := [_]) (d' := d - 1) rfl (s_X8_thrown (by omega) tw591) dL_law_597 kX0_142 (by omega) (by decide) rfl (Nat.le_of_ble_eq_true rfl) (rcv_o (by first | assumption | first | assumption | (simp (disch := omega) only [shI, shR, shL, shC, shD, shW, sh_V, shN_e, shN_n, crI, crL, crC, crW, crV, crR_e, crR_n, crN_e, crN_n, ciR, ciL, ciD, ciN_e, ciN_n, rdI_e, rdI_n, rdC_i, rdC_o, rdW, rdU_e, rdU_n, rdLW, clI, clR, clC, clD, clW, clV, clN_e, clN_n, clL_e, clL_n]; done) | (simp (disch := omega) only [shI, shR, shL, shC, shD, shW, sh_V, shN_e, shN_n, crI, crL, crC, crW, crV, crR_e, crR_n, crN_e, crN_n, ciR, ciL, ciD, ciN_e, ciN_n, rdI_e, rdI_n, rdC_i, rdC_o, rdW, rdU_e, rdU_n, rdLW, clI, clR, clC, clD, clW, clV, clN_e, clN_n, clL_e, clL_n] <;> first | assumption | rfl | omega)) rfl) (fun x597 M597 h597 => ?_)
        obtain ⟨e597, f597⟩ := h597
        subst f597
        refine x_iload dL_law_600 rfl ?_
        refine x_icmp_eq (tgt := 607) dL_law_602 (by decide) (fun b602 => ?_) (fun b602 => ?_)
        · refine x_iload dL_law_607 rfl ?_
          refine x_if_ne (tgt := 624) dL_law_609 (by decide) (fun b609 => ?_) (fun b609 => ?_)
          · refine x_goto (tgt := 2737) dL_law_624 (by decide) ?_
            exact hk _ _ _ _ _ hJ591 hN559 la591 lb591
          · refine x_aload_n dL_law_612 rfl rfl ?_
            refine x_iconst dL_law_613 rfl ?_
            refine x_lald dL_law_614 (by first | assumption | first | assumption | (simp (disch := omega) only [shI, shR, shL, shC, shD, shW, sh_V, shN_e, shN_n, crI, crL, crC, crW, crV, crR_e, crR_n, crN_e, crN_n, ciR, ciL, ciD, ciN_e, ciN_n, rdI_e, rdI_n, rdC_i, rdC_o, rdW, rdU_e, rdU_n, rdLW, clI, clR, clC, clD, clW, clV, clN_e, clN_n, clL_e, clL_n]; done) | (simp (disch := omega) only [shI, shR, shL, shC, shD, shW, sh_V, shN_e, shN_n, crI, crL, crC, crW, crV, crR_e, crR_n, crN_e, crN_n, ciR, ciL, ciD, ciN_e, ciN_n, rdI_e, rdI_n, rdC_i, rdC_o, rdW, rdU_e, rdU_n, rdLW, clI, clR, clC, clD, clW, clV, clN_e, clN_n, clL_e, clL_n] <;> first | assumption | rfl | omega)) (by omega) (by omega) ?_
            refine x_iload dL_law_615 rfl ?_
            refine x_i2l dL_law_617 ?_
            refine x_lcmp dL_law_618 ?_
            refine x_if_eq (tgt := 624) dL_law_619 (by decide) (fun b619 => ?_) (fun b619 => ?_)
            · refine x_goto (tgt := 2737) dL_law_624 (by decide) ?_
              exact hk _ _ _ _ _ hJ591 hN559 la591 lb591
            · exact absurd (jlcmp_0.mpr (by have h0 : x559 = 0 := (by omega); have a1 := tm591; have a2 := hy559 h0; have a3 := hb591 h0; omega)) b619
        · exact absurd (e597.trans e591) b602
      · exact absurd hz b583
    · exact absurd hz b550
  · refine x_aload_n dL_law_531 rfl rfl ?_
    refine x_aload_n dL_law_532 rfl rfl ?_
    refine x_iload dL_law_533 rfl ?_
    refine x_iconst dL_law_535 rfl ?_
    first | refine x_iaddN dL_law_536 (by unfold i32; omega) ?_ | refine x_iadd dL_law_536 ?_
    refine x_iald dL_law_537 (by first | assumption | first | assumption | (simp (disch := omega) only [shI, shR, shL, shC, shD, shW, sh_V, shN_e, shN_n, crI, crL, crC, crW, crV, crR_e, crR_n, crN_e, crN_n, ciR, ciL, ciD, ciN_e, ciN_n, rdI_e, rdI_n, rdC_i, rdC_o, rdW, rdU_e, rdU_n, rdLW, clI, clR, clC, clD, clW, clV, clN_e, clN_n, clL_e, clL_n]; done) | (simp (disch := omega) only [shI, shR, shL, shC, shD, shW, sh_V, shN_e, shN_n, crI, crL, crC, crW, crV, crR_e, crR_n, crN_e, crN_n, ciR, ciL, ciD, ciN_e, ciN_n, rdI_e, rdI_n, rdC_i, rdC_o, rdW, rdU_e, rdU_n, rdLW, clI, clR, clC, clD, clW, clV, clN_e, clN_n, clL_e, clL_n] <;> first | assumption | rfl | omega)) (by omega) (by omega) ?_
    rw [hsc]
    refine x_aload_n dL_law_538 rfl rfl ?_
    refine x_iload dL_law_539 rfl ?_
    refine x_iconst dL_law_541 rfl ?_
    first | refine x_iaddN dL_law_542 (by unfold i32; omega) ?_ | refine x_iadd dL_law_542 ?_
    refine x_iald dL_law_543 (by first | assumption | first | assumption | (simp (disch := omega) only [shI, shR, shL, shC, shD, shW, sh_V, shN_e, shN_n, crI, crL, crC, crW, crV, crR_e, crR_n, crN_e, crN_n, ciR, ciL, ciD, ciN_e, ciN_n, rdI_e, rdI_n, rdC_i, rdC_o, rdW, rdU_e, rdU_n, rdLW, clI, clR, clC, clD, clW, clV, clN_e, clN_n, clL_e, clL_n]; done) | (simp (disch := omega) only [shI, shR, shL, shC, shD, shW, sh_V, shN_e, shN_n, crI, crL, crC, crW, crV, crR_e, crR_n, crN_e, crN_n, ciR, ciL, ciD, ciN_e, ciN_n, rdI_e, rdI_n, rdC_i, rdC_o, rdW, rdU_e, rdU_n, rdLW, clI, clR, clC, clD, clW, clV, clN_e, clN_n, clL_e, clL_n] <;> first | assumption | rfl | omega)) (by omega) (by omega) ?_
    rw [hsc]
    refine x_aload_n dL_law_544 rfl rfl ?_
    refine x_iload dL_law_545 rfl ?_
    refine x_iconst dL_law_547 rfl ?_
    first | refine x_iaddN dL_law_548 (by unfold i32; omega) ?_ | refine x_iadd dL_law_548 ?_
    refine x_iald dL_law_549 (by first | assumption | first | assumption | (simp (disch := omega) only [shI, shR, shL, shC, shD, shW, sh_V, shN_e, shN_n, crI, crL, crC, crW, crV, crR_e, crR_n, crN_e, crN_n, ciR, ciL, ciD, ciN_e, ciN_n, rdI_e, rdI_n, rdC_i, rdC_o, rdW, rdU_e, rdU_n, rdLW, clI, clR, clC, clD, clW, clV, clN_e, clN_n, clL_e, clL_n]; done) | (simp (disch := omega) only [shI, shR, shL, shC, shD, shW, sh_V, shN_e, shN_n, crI, crL, crC, crW, crV, crR_e, crR_n, crN_e, crN_n, ciR, ciL, ciD, ciN_e, ciN_n, rdI_e, rdI_n, rdC_i, rdC_o, rdW, rdU_e, rdU_n, rdLW, clI, clR, clC, clD, clW, clV, clN_e, clN_n, clL_e, clL_n] <;> first | assumption | rfl | omega)) (by omega) (by omega) ?_
    rw [hsc]
    refine x_if_eq (tgt := 557) dL_law_550 (by decide) (fun b550 => ?_) (fun b550 => ?_)
    · exact absurd b550 hz
    · refine x_iconst dL_law_553 rfl ?_
      refine x_goto (tgt := 558) dL_law_554 (by decide) ?_
      refine x_aload_n dL_law_558 rfl rfl ?_
      refine g_callI (vs := [_, _, _, _, _]) (d' := d - 1) rfl (uc_micro (by omega) h7 hC) dL_law_559 kX0_156 (by omega) (by decide) rfl (Nat.le_of_ble_eq_true rfl) (rcv_n) (fun x559 M559 h559 => ?_)
      obtain ⟨y559, s559, N559, hR559, hy559, hN559, hch559⟩ := h559
      obtain ⟨hT559, ⟨me559, mw559⟩, sf559, hs559, hok559, hX559⟩ := hJ.mid hch559
      have hI559 : TI M559 744 v n A hi vi tp sz fa := hT559
      refine x_istore (L' := [some _, some _, some _, some _, some _, some _, none]) dL_law_562 (by decide) rfl ?_
      refine x_aload_n dL_law_564 rfl rfl ?_
      refine x_aload_n dL_law_565 rfl rfl ?_
      refine x_iload dL_law_566 rfl ?_
      refine x_iconst dL_law_568 rfl ?_
      first | refine x_iaddN dL_law_569 (by unfold i32; omega) ?_ | refine x_iadd dL_law_569 ?_
      refine x_iald dL_law_570 (by first | assumption | first | assumption | (simp (disch := omega) only [shI, shR, shL, shC, shD, shW, sh_V, shN_e, shN_n, crI, crL, crC, crW, crV, crR_e, crR_n, crN_e, crN_n, ciR, ciL, ciD, ciN_e, ciN_n, rdI_e, rdI_n, rdC_i, rdC_o, rdW, rdU_e, rdU_n, rdLW, clI, clR, clC, clD, clW, clV, clN_e, clN_n, clL_e, clL_n]; done) | (simp (disch := omega) only [shI, shR, shL, shC, shD, shW, sh_V, shN_e, shN_n, crI, crL, crC, crW, crV, crR_e, crR_n, crN_e, crN_n, ciR, ciL, ciD, ciN_e, ciN_n, rdI_e, rdI_n, rdC_i, rdC_o, rdW, rdU_e, rdU_n, rdLW, clI, clR, clC, clD, clW, clV, clN_e, clN_n, clL_e, clL_n] <;> first | assumption | rfl | omega)) (by omega) (by omega) ?_
      rw [hs559]
      refine x_aload_n dL_law_571 rfl rfl ?_
      refine x_iload dL_law_572 rfl ?_
      refine x_iconst dL_law_574 rfl ?_
      first | refine x_iaddN dL_law_575 (by unfold i32; omega) ?_ | refine x_iadd dL_law_575 ?_
      refine x_iald dL_law_576 (by first | assumption | first | assumption | (simp (disch := omega) only [shI, shR, shL, shC, shD, shW, sh_V, shN_e, shN_n, crI, crL, crC, crW, crV, crR_e, crR_n, crN_e, crN_n, ciR, ciL, ciD, ciN_e, ciN_n, rdI_e, rdI_n, rdC_i, rdC_o, rdW, rdU_e, rdU_n, rdLW, clI, clR, clC, clD, clW, clV, clN_e, clN_n, clL_e, clL_n]; done) | (simp (disch := omega) only [shI, shR, shL, shC, shD, shW, sh_V, shN_e, shN_n, crI, crL, crC, crW, crV, crR_e, crR_n, crN_e, crN_n, ciR, ciL, ciD, ciN_e, ciN_n, rdI_e, rdI_n, rdC_i, rdC_o, rdW, rdU_e, rdU_n, rdLW, clI, clR, clC, clD, clW, clV, clN_e, clN_n, clL_e, clL_n] <;> first | assumption | rfl | omega)) (by omega) (by omega) ?_
      rw [hs559]
      refine x_aload_n dL_law_577 rfl rfl ?_
      refine x_iload dL_law_578 rfl ?_
      refine x_iconst dL_law_580 rfl ?_
      first | refine x_iaddN dL_law_581 (by unfold i32; omega) ?_ | refine x_iadd dL_law_581 ?_
      refine x_iald dL_law_582 (by first | assumption | first | assumption | (simp (disch := omega) only [shI, shR, shL, shC, shD, shW, sh_V, shN_e, shN_n, crI, crL, crC, crW, crV, crR_e, crR_n, crN_e, crN_n, ciR, ciL, ciD, ciN_e, ciN_n, rdI_e, rdI_n, rdC_i, rdC_o, rdW, rdU_e, rdU_n, rdLW, clI, clR, clC, clD, clW, clV, clN_e, clN_n, clL_e, clL_n]; done) | (simp (disch := omega) only [shI, shR, shL, shC, shD, shW, sh_V, shN_e, shN_n, crI, crL, crC, crW, crV, crR_e, crR_n, crN_e, crN_n, ciR, ciL, ciD, ciN_e, ciN_n, rdI_e, rdI_n, rdC_i, rdC_o, rdW, rdU_e, rdU_n, rdLW, clI, clR, clC, clD, clW, clV, clN_e, clN_n, clL_e, clL_n] <;> first | assumption | rfl | omega)) (by omega) (by omega) ?_
      rw [hs559]
      refine x_if_eq (tgt := 590) dL_law_583 (by decide) (fun b583 => ?_) (fun b583 => ?_)
      · exact absurd b583 hz
      · refine x_iconst dL_law_586 rfl ?_
        refine x_goto (tgt := 591) dL_law_587 (by decide) ?_
        refine g_callI (vs := [_, _, _, _]) (d' := d - 1) rfl (rc_micro (by omega) hI559 hR559) dL_law_591 kX0_159 (by omega) (by decide) rfl (Nat.le_of_ble_eq_true rfl) (rcv_o (by first | assumption | first | assumption | (simp (disch := omega) only [shI, shR, shL, shC, shD, shW, sh_V, shN_e, shN_n, crI, crL, crC, crW, crV, crR_e, crR_n, crN_e, crN_n, ciR, ciL, ciD, ciN_e, ciN_n, rdI_e, rdI_n, rdC_i, rdC_o, rdW, rdU_e, rdU_n, rdLW, clI, clR, clC, clD, clW, clV, clN_e, clN_n, clL_e, clL_n]; done) | (simp (disch := omega) only [shI, shR, shL, shC, shD, shW, sh_V, shN_e, shN_n, crI, crL, crC, crW, crV, crR_e, crR_n, crN_e, crN_n, ciR, ciL, ciD, ciN_e, ciN_n, rdI_e, rdI_n, rdC_i, rdC_o, rdW, rdU_e, rdU_n, rdLW, clI, clR, clC, clD, clW, clV, clN_e, clN_n, clL_e, clL_n] <;> first | assumption | rfl | omega)) rfl) (fun x591 M591 h591 => ?_)
        obtain ⟨e591, hb591, ⟨w591, hv591, ht591⟩, hr591⟩ := h591
        obtain ⟨hJ591, la591, lb591, tv591, tm591, tw591, te591⟩ := hJ.st (v' := w591) hch559 hr591 hv591 ht591 (xc_micro hF hA hL hn hR559)
        refine x_istore (L' := [some _, some _, some _, some _, some _, some _, some _]) dL_law_594 (by decide) rfl ?_
        refine x_aload_n dL_law_596 rfl rfl ?_
        refine g_callI (vs := [_]) (d' := d - 1) rfl (s_X8_thrown (by omega) tw591) dL_law_597 kX0_142 (by omega) (by decide) rfl (Nat.le_of_ble_eq_true rfl) (rcv_o (by first | assumption | first | assumption | (simp (disch := omega) only [shI, shR, shL, shC, shD, shW, sh_V, shN_e, shN_n, crI, crL, crC, crW, crV, crR_e, crR_n, crN_e, crN_n, ciR, ciL, ciD, ciN_e, ciN_n, rdI_e, rdI_n, rdC_i, rdC_o, rdW, rdU_e, rdU_n, rdLW, clI, clR, clC, clD, clW, clV, clN_e, clN_n, clL_e, clL_n]; done) | (simp (disch := omega) only [shI, shR, shL, shC, shD, shW, sh_V, shN_e, shN_n, crI, crL, crC, crW, crV, crR_e, crR_n, crN_e, crN_n, ciR, ciL, ciD, ciN_e, ciN_n, rdI_e, rdI_n, rdC_i, rdC_o, rdW, rdU_e, rdU_n, rdLW, clI, clR, clC, clD, clW, clV, clN_e, clN_n, clL_e, clL_n] <;> first | assumption | rfl | omega)) rfl) (fun x597 M597 h597 => ?_)
        obtain ⟨e597, f597⟩ := h597
        subst f597
        refine x_iload dL_law_600 rfl ?_
        refine x_icmp_eq (tgt := 607) dL_law_602 (by decide) (fun b602 => ?_) (fun b602 => ?_)
        · refine x_iload dL_law_607 rfl ?_
          refine x_if_ne (tgt := 624) dL_law_609 (by decide) (fun b609 => ?_) (fun b609 => ?_)
          · refine x_goto (tgt := 2737) dL_law_624 (by decide) ?_
            exact hk _ _ _ _ _ hJ591 hN559 la591 lb591
          · refine x_aload_n dL_law_612 rfl rfl ?_
            refine x_iconst dL_law_613 rfl ?_
            refine x_lald dL_law_614 (by first | assumption | first | assumption | (simp (disch := omega) only [shI, shR, shL, shC, shD, shW, sh_V, shN_e, shN_n, crI, crL, crC, crW, crV, crR_e, crR_n, crN_e, crN_n, ciR, ciL, ciD, ciN_e, ciN_n, rdI_e, rdI_n, rdC_i, rdC_o, rdW, rdU_e, rdU_n, rdLW, clI, clR, clC, clD, clW, clV, clN_e, clN_n, clL_e, clL_n]; done) | (simp (disch := omega) only [shI, shR, shL, shC, shD, shW, sh_V, shN_e, shN_n, crI, crL, crC, crW, crV, crR_e, crR_n, crN_e, crN_n, ciR, ciL, ciD, ciN_e, ciN_n, rdI_e, rdI_n, rdC_i, rdC_o, rdW, rdU_e, rdU_n, rdLW, clI, clR, clC, clD, clW, clV, clN_e, clN_n, clL_e, clL_n] <;> first | assumption | rfl | omega)) (by omega) (by omega) ?_
            refine x_iload dL_law_615 rfl ?_
            refine x_i2l dL_law_617 ?_
            refine x_lcmp dL_law_618 ?_
            refine x_if_eq (tgt := 624) dL_law_619 (by decide) (fun b619 => ?_) (fun b619 => ?_)
            · refine x_goto (tgt := 2737) dL_law_624 (by decide) ?_
              exact hk _ _ _ _ _ hJ591 hN559 la591 lb591
            · exact absurd (jlcmp_0.mpr (by have h0 : x559 = 0 := (by omega); have a1 := tm591; have a2 := hy559 h0; have a3 := hb591 h0; omega)) b619
        · exact absurd (e597.trans e591) b602
theorem cs_7 (hd : 100 ≤ d) (hJ : IV M s N len sc) (hN : N ≤ 900000000) (hi0 : 0 ≤ i ∧ i + 6 ≤ len) (hln : len ≤ 384) (hk : ∀ (M1 : Mem) (s1 : Sg) (N1 : Int) (o5 o6 : Option DV), IV M1 s1 N1 len sc → N1 ≤ N + 120 → mnx M1 ≤ mnx M + 1400 → mns M1 ≤ mns M + 6000 → WP G d mL_law 2737 [some (dR (-5)), some (dR 0), some (dR 744), some (dR 760), some (dI i), o5, o6] [] M1 Q) : WP G d mL_law 627 [some (dR (-5)), some (dR 0), some (dR 744), some (dR 760), some (dI i), none, none] [] M Q := by
  obtain ⟨v, n, A, hi, vi, tp, sz, fa⟩ := s
  obtain ⟨hC0, hT0, hF, h7, s5, hsc⟩ := id hJ
  have hC : CI M v n A hi vi tp sz fa N := hC0
  have s0 : msh M 0 = some (1, 0) := hC.1.1.1.1
  have hA : okA v := hC.2.1.1
  have hL : lawOK v := hC.2.1.2.1
  have hn : 0 ≤ n ∧ n ≤ 12 := hC.2.2.1.2.1
  refine x_aload_n dL_law_627 rfl rfl ?_
  refine x_aload_n dL_law_628 rfl rfl ?_
  refine x_iload dL_law_629 rfl ?_
  refine x_iconst dL_law_631 rfl ?_
  first | refine x_iaddN dL_law_632 (by unfold i32; omega) ?_ | refine x_iadd dL_law_632 ?_
  refine x_iald dL_law_633 (by first | assumption | first | assumption | (simp (disch := omega) only [shI, shR, shL, shC, shD, shW, sh_V, shN_e, shN_n, crI, crL, crC, crW, crV, crR_e, crR_n, crN_e, crN_n, ciR, ciL, ciD, ciN_e, ciN_n, rdI_e, rdI_n, rdC_i, rdC_o, rdW, rdU_e, rdU_n, rdLW, clI, clR, clC, clD, clW, clV, clN_e, clN_n, clL_e, clL_n]; done) | (simp (disch := omega) only [shI, shR, shL, shC, shD, shW, sh_V, shN_e, shN_n, crI, crL, crC, crW, crV, crR_e, crR_n, crN_e, crN_n, ciR, ciL, ciD, ciN_e, ciN_n, rdI_e, rdI_n, rdC_i, rdC_o, rdW, rdU_e, rdU_n, rdLW, clI, clR, clC, clD, clW, clV, clN_e, clN_n, clL_e, clL_n] <;> first | assumption | rfl | omega)) (by omega) (by omega) ?_
  rw [hsc]
  refine x_aload_n dL_law_634 rfl rfl ?_
  refine x_iload dL_law_635 rfl ?_
  refine x_iconst dL_law_637 rfl ?_
  first | refine x_iaddN dL_law_638 (by unfold i32; omega) ?_ | refine x_iadd dL_law_638 ?_
  refine x_iald dL_law_639 (by first | assumption | first | assumption | (simp (disch := omega) only [shI, shR, shL, shC, shD, shW, sh_V, shN_e, shN_n, crI, crL, crC, crW, crV, crR_e, crR_n, crN_e, crN_n, ciR, ciL, ciD, ciN_e, ciN_n, rdI_e, rdI_n, rdC_i, rdC_o, rdW, rdU_e, rdU_n, rdLW, clI, clR, clC, clD, clW, clV, clN_e, clN_n, clL_e, clL_n]; done) | (simp (disch := omega) only [shI, shR, shL, shC, shD, shW, sh_V, shN_e, shN_n, crI, crL, crC, crW, crV, crR_e, crR_n, crN_e, crN_n, ciR, ciL, ciD, ciN_e, ciN_n, rdI_e, rdI_n, rdC_i, rdC_o, rdW, rdU_e, rdU_n, rdLW, clI, clR, clC, clD, clW, clV, clN_e, clN_n, clL_e, clL_n] <;> first | assumption | rfl | omega)) (by omega) (by omega) ?_
  rw [hsc]
  refine x_aload_n dL_law_640 rfl rfl ?_
  refine g_callI (vs := [_, _, _, _]) (d' := d - 1) rfl (uc_witness (by omega) h7 hC) dL_law_641 kX0_160 (by omega) (by decide) rfl (Nat.le_of_ble_eq_true rfl) (rcv_n) (fun x641 M641 h641 => ?_)
  obtain ⟨y641, s641, N641, hR641, hy641, hN641, hch641⟩ := h641
  obtain ⟨hT641, ⟨me641, mw641⟩, sf641, hs641, hok641, hX641⟩ := hJ.mid hch641
  have hI641 : TI M641 744 v n A hi vi tp sz fa := hT641
  refine x_istore (L' := [some _, some _, some _, some _, some _, some _, none]) dL_law_644 (by decide) rfl ?_
  refine x_aload_n dL_law_646 rfl rfl ?_
  refine x_aload_n dL_law_647 rfl rfl ?_
  refine x_iload dL_law_648 rfl ?_
  refine x_iconst dL_law_650 rfl ?_
  first | refine x_iaddN dL_law_651 (by unfold i32; omega) ?_ | refine x_iadd dL_law_651 ?_
  refine x_iald dL_law_652 (by first | assumption | first | assumption | (simp (disch := omega) only [shI, shR, shL, shC, shD, shW, sh_V, shN_e, shN_n, crI, crL, crC, crW, crV, crR_e, crR_n, crN_e, crN_n, ciR, ciL, ciD, ciN_e, ciN_n, rdI_e, rdI_n, rdC_i, rdC_o, rdW, rdU_e, rdU_n, rdLW, clI, clR, clC, clD, clW, clV, clN_e, clN_n, clL_e, clL_n]; done) | (simp (disch := omega) only [shI, shR, shL, shC, shD, shW, sh_V, shN_e, shN_n, crI, crL, crC, crW, crV, crR_e, crR_n, crN_e, crN_n, ciR, ciL, ciD, ciN_e, ciN_n, rdI_e, rdI_n, rdC_i, rdC_o, rdW, rdU_e, rdU_n, rdLW, clI, clR, clC, clD, clW, clV, clN_e, clN_n, clL_e, clL_n] <;> first | assumption | rfl | omega)) (by omega) (by omega) ?_
  rw [hs641]
  refine x_aload_n dL_law_653 rfl rfl ?_
  refine x_iload dL_law_654 rfl ?_
  refine x_iconst dL_law_656 rfl ?_
  first | refine x_iaddN dL_law_657 (by unfold i32; omega) ?_ | refine x_iadd dL_law_657 ?_
  refine x_iald dL_law_658 (by first | assumption | first | assumption | (simp (disch := omega) only [shI, shR, shL, shC, shD, shW, sh_V, shN_e, shN_n, crI, crL, crC, crW, crV, crR_e, crR_n, crN_e, crN_n, ciR, ciL, ciD, ciN_e, ciN_n, rdI_e, rdI_n, rdC_i, rdC_o, rdW, rdU_e, rdU_n, rdLW, clI, clR, clC, clD, clW, clV, clN_e, clN_n, clL_e, clL_n]; done) | (simp (disch := omega) only [shI, shR, shL, shC, shD, shW, sh_V, shN_e, shN_n, crI, crL, crC, crW, crV, crR_e, crR_n, crN_e, crN_n, ciR, ciL, ciD, ciN_e, ciN_n, rdI_e, rdI_n, rdC_i, rdC_o, rdW, rdU_e, rdU_n, rdLW, clI, clR, clC, clD, clW, clV, clN_e, clN_n, clL_e, clL_n] <;> first | assumption | rfl | omega)) (by omega) (by omega) ?_
  rw [hs641]
  refine g_callI (vs := [_, _, _]) (d' := d - 1) rfl (rc_witness (by omega) hI641 hR641) dL_law_659 kX0_162 (by omega) (by decide) rfl (Nat.le_of_ble_eq_true rfl) (rcv_o (by first | assumption | first | assumption | (simp (disch := omega) only [shI, shR, shL, shC, shD, shW, sh_V, shN_e, shN_n, crI, crL, crC, crW, crV, crR_e, crR_n, crN_e, crN_n, ciR, ciL, ciD, ciN_e, ciN_n, rdI_e, rdI_n, rdC_i, rdC_o, rdW, rdU_e, rdU_n, rdLW, clI, clR, clC, clD, clW, clV, clN_e, clN_n, clL_e, clL_n]; done) | (simp (disch := omega) only [shI, shR, shL, shC, shD, shW, sh_V, shN_e, shN_n, crI, crL, crC, crW, crV, crR_e, crR_n, crN_e, crN_n, ciR, ciL, ciD, ciN_e, ciN_n, rdI_e, rdI_n, rdC_i, rdC_o, rdW, rdU_e, rdU_n, rdLW, clI, clR, clC, clD, clW, clV, clN_e, clN_n, clL_e, clL_n] <;> first | assumption | rfl | omega)) rfl) (fun x659 M659 h659 => ?_)
  obtain ⟨e659, hb659, ⟨w659, hv659, ht659⟩, hr659⟩ := h659
  obtain ⟨hJ659, la659, lb659, tv659, tm659, tw659, te659⟩ := hJ.st (v' := w659) hch641 hr659 hv659 ht659 (xc_witness hF hA hL hn hR641)
  refine x_istore (L' := [some _, some _, some _, some _, some _, some _, some _]) dL_law_662 (by decide) rfl ?_
  refine x_aload_n dL_law_664 rfl rfl ?_
  refine g_callI (vs := [_]) (d' := d - 1) rfl (s_X8_thrown (by omega) tw659) dL_law_665 kX0_142 (by omega) (by decide) rfl (Nat.le_of_ble_eq_true rfl) (rcv_o (by first | assumption | first | assumption | (simp (disch := omega) only [shI, shR, shL, shC, shD, shW, sh_V, shN_e, shN_n, crI, crL, crC, crW, crV, crR_e, crR_n, crN_e, crN_n, ciR, ciL, ciD, ciN_e, ciN_n, rdI_e, rdI_n, rdC_i, rdC_o, rdW, rdU_e, rdU_n, rdLW, clI, clR, clC, clD, clW, clV, clN_e, clN_n, clL_e, clL_n]; done) | (simp (disch := omega) only [shI, shR, shL, shC, shD, shW, sh_V, shN_e, shN_n, crI, crL, crC, crW, crV, crR_e, crR_n, crN_e, crN_n, ciR, ciL, ciD, ciN_e, ciN_n, rdI_e, rdI_n, rdC_i, rdC_o, rdW, rdU_e, rdU_n, rdLW, clI, clR, clC, clD, clW, clV, clN_e, clN_n, clL_e, clL_n] <;> first | assumption | rfl | omega)) rfl) (fun x665 M665 h665 => ?_)
  obtain ⟨e665, f665⟩ := h665
  subst f665
  refine x_iload dL_law_668 rfl ?_
  refine x_icmp_eq (tgt := 675) dL_law_670 (by decide) (fun b670 => ?_) (fun b670 => ?_)
  · refine x_iload dL_law_675 rfl ?_
    refine x_if_ne (tgt := 692) dL_law_677 (by decide) (fun b677 => ?_) (fun b677 => ?_)
    · refine x_goto (tgt := 2737) dL_law_692 (by decide) ?_
      exact hk _ _ _ _ _ hJ659 hN641 la659 lb659
    · refine x_aload_n dL_law_680 rfl rfl ?_
      refine x_iconst dL_law_681 rfl ?_
      refine x_lald dL_law_682 (by first | assumption | first | assumption | (simp (disch := omega) only [shI, shR, shL, shC, shD, shW, sh_V, shN_e, shN_n, crI, crL, crC, crW, crV, crR_e, crR_n, crN_e, crN_n, ciR, ciL, ciD, ciN_e, ciN_n, rdI_e, rdI_n, rdC_i, rdC_o, rdW, rdU_e, rdU_n, rdLW, clI, clR, clC, clD, clW, clV, clN_e, clN_n, clL_e, clL_n]; done) | (simp (disch := omega) only [shI, shR, shL, shC, shD, shW, sh_V, shN_e, shN_n, crI, crL, crC, crW, crV, crR_e, crR_n, crN_e, crN_n, ciR, ciL, ciD, ciN_e, ciN_n, rdI_e, rdI_n, rdC_i, rdC_o, rdW, rdU_e, rdU_n, rdLW, clI, clR, clC, clD, clW, clV, clN_e, clN_n, clL_e, clL_n] <;> first | assumption | rfl | omega)) (by omega) (by omega) ?_
      refine x_iload dL_law_683 rfl ?_
      refine x_i2l dL_law_685 ?_
      refine x_lcmp dL_law_686 ?_
      refine x_if_eq (tgt := 692) dL_law_687 (by decide) (fun b687 => ?_) (fun b687 => ?_)
      · refine x_goto (tgt := 2737) dL_law_692 (by decide) ?_
        exact hk _ _ _ _ _ hJ659 hN641 la659 lb659
      · exact absurd (jlcmp_0.mpr (by have h0 : x641 = 0 := (by omega); have a1 := tm659; have a2 := hy641 h0; have a3 := hb659 h0; omega)) b687
  · exact absurd (e665.trans e659) b670
theorem cs_8 (hd : 100 ≤ d) (hJ : IV M s N len sc) (hN : N ≤ 900000000) (hi0 : 0 ≤ i ∧ i + 6 ≤ len) (hln : len ≤ 384) (hk : ∀ (M1 : Mem) (s1 : Sg) (N1 : Int) (o5 o6 : Option DV), IV M1 s1 N1 len sc → N1 ≤ N + 120 → mnx M1 ≤ mnx M + 1400 → mns M1 ≤ mns M + 6000 → WP G d mL_law 2737 [some (dR (-5)), some (dR 0), some (dR 744), some (dR 760), some (dI i), o5, o6] [] M1 Q) : WP G d mL_law 695 [some (dR (-5)), some (dR 0), some (dR 744), some (dR 760), some (dI i), none, none] [] M Q := by
  obtain ⟨v, n, A, hi, vi, tp, sz, fa⟩ := s
  obtain ⟨hC0, hT0, hF, h7, s5, hsc⟩ := id hJ
  have hC : CI M v n A hi vi tp sz fa N := hC0
  have s0 : msh M 0 = some (1, 0) := hC.1.1.1.1
  have hA : okA v := hC.2.1.1
  have hL : lawOK v := hC.2.1.2.1
  have hn : 0 ≤ n ∧ n ≤ 12 := hC.2.2.1.2.1
  refine x_aload_n dL_law_695 rfl rfl ?_
  refine x_aload_n dL_law_696 rfl rfl ?_
  refine x_iload dL_law_697 rfl ?_
  refine x_iconst dL_law_699 rfl ?_
  first | refine x_iaddN dL_law_700 (by unfold i32; omega) ?_ | refine x_iadd dL_law_700 ?_
  refine x_iald dL_law_701 (by first | assumption | first | assumption | (simp (disch := omega) only [shI, shR, shL, shC, shD, shW, sh_V, shN_e, shN_n, crI, crL, crC, crW, crV, crR_e, crR_n, crN_e, crN_n, ciR, ciL, ciD, ciN_e, ciN_n, rdI_e, rdI_n, rdC_i, rdC_o, rdW, rdU_e, rdU_n, rdLW, clI, clR, clC, clD, clW, clV, clN_e, clN_n, clL_e, clL_n]; done) | (simp (disch := omega) only [shI, shR, shL, shC, shD, shW, sh_V, shN_e, shN_n, crI, crL, crC, crW, crV, crR_e, crR_n, crN_e, crN_n, ciR, ciL, ciD, ciN_e, ciN_n, rdI_e, rdI_n, rdC_i, rdC_o, rdW, rdU_e, rdU_n, rdLW, clI, clR, clC, clD, clW, clV, clN_e, clN_n, clL_e, clL_n] <;> first | assumption | rfl | omega)) (by omega) (by omega) ?_
  rw [hsc]
  refine x_aload_n dL_law_702 rfl rfl ?_
  refine x_iload dL_law_703 rfl ?_
  refine x_iconst dL_law_705 rfl ?_
  first | refine x_iaddN dL_law_706 (by unfold i32; omega) ?_ | refine x_iadd dL_law_706 ?_
  refine x_iald dL_law_707 (by first | assumption | first | assumption | (simp (disch := omega) only [shI, shR, shL, shC, shD, shW, sh_V, shN_e, shN_n, crI, crL, crC, crW, crV, crR_e, crR_n, crN_e, crN_n, ciR, ciL, ciD, ciN_e, ciN_n, rdI_e, rdI_n, rdC_i, rdC_o, rdW, rdU_e, rdU_n, rdLW, clI, clR, clC, clD, clW, clV, clN_e, clN_n, clL_e, clL_n]; done) | (simp (disch := omega) only [shI, shR, shL, shC, shD, shW, sh_V, shN_e, shN_n, crI, crL, crC, crW, crV, crR_e, crR_n, crN_e, crN_n, ciR, ciL, ciD, ciN_e, ciN_n, rdI_e, rdI_n, rdC_i, rdC_o, rdW, rdU_e, rdU_n, rdLW, clI, clR, clC, clD, clW, clV, clN_e, clN_n, clL_e, clL_n] <;> first | assumption | rfl | omega)) (by omega) (by omega) ?_
  rw [hsc]
  refine x_aload_n dL_law_708 rfl rfl ?_
  refine x_iload dL_law_709 rfl ?_
  refine x_iconst dL_law_711 rfl ?_
  first | refine x_iaddN dL_law_712 (by unfold i32; omega) ?_ | refine x_iadd dL_law_712 ?_
  refine x_iald dL_law_713 (by first | assumption | first | assumption | (simp (disch := omega) only [shI, shR, shL, shC, shD, shW, sh_V, shN_e, shN_n, crI, crL, crC, crW, crV, crR_e, crR_n, crN_e, crN_n, ciR, ciL, ciD, ciN_e, ciN_n, rdI_e, rdI_n, rdC_i, rdC_o, rdW, rdU_e, rdU_n, rdLW, clI, clR, clC, clD, clW, clV, clN_e, clN_n, clL_e, clL_n]; done) | (simp (disch := omega) only [shI, shR, shL, shC, shD, shW, sh_V, shN_e, shN_n, crI, crL, crC, crW, crV, crR_e, crR_n, crN_e, crN_n, ciR, ciL, ciD, ciN_e, ciN_n, rdI_e, rdI_n, rdC_i, rdC_o, rdW, rdU_e, rdU_n, rdLW, clI, clR, clC, clD, clW, clV, clN_e, clN_n, clL_e, clL_n] <;> first | assumption | rfl | omega)) (by omega) (by omega) ?_
  rw [hsc]
  refine x_aload_n dL_law_714 rfl rfl ?_
  refine g_callI (vs := [_, _, _, _, _]) (d' := d - 1) rfl (uc_done (by omega) h7 hC) dL_law_715 kX0_163 (by omega) (by decide) rfl (Nat.le_of_ble_eq_true rfl) (rcv_n) (fun x715 M715 h715 => ?_)
  obtain ⟨y715, s715, N715, hR715, hy715, hN715, hch715⟩ := h715
  obtain ⟨hT715, ⟨me715, mw715⟩, sf715, hs715, hok715, hX715⟩ := hJ.mid hch715
  have hI715 : TI M715 744 v n A hi vi tp sz fa := hT715
  refine x_istore (L' := [some _, some _, some _, some _, some _, some _, none]) dL_law_718 (by decide) rfl ?_
  refine x_aload_n dL_law_720 rfl rfl ?_
  refine x_aload_n dL_law_721 rfl rfl ?_
  refine x_iload dL_law_722 rfl ?_
  refine x_iconst dL_law_724 rfl ?_
  first | refine x_iaddN dL_law_725 (by unfold i32; omega) ?_ | refine x_iadd dL_law_725 ?_
  refine x_iald dL_law_726 (by first | assumption | first | assumption | (simp (disch := omega) only [shI, shR, shL, shC, shD, shW, sh_V, shN_e, shN_n, crI, crL, crC, crW, crV, crR_e, crR_n, crN_e, crN_n, ciR, ciL, ciD, ciN_e, ciN_n, rdI_e, rdI_n, rdC_i, rdC_o, rdW, rdU_e, rdU_n, rdLW, clI, clR, clC, clD, clW, clV, clN_e, clN_n, clL_e, clL_n]; done) | (simp (disch := omega) only [shI, shR, shL, shC, shD, shW, sh_V, shN_e, shN_n, crI, crL, crC, crW, crV, crR_e, crR_n, crN_e, crN_n, ciR, ciL, ciD, ciN_e, ciN_n, rdI_e, rdI_n, rdC_i, rdC_o, rdW, rdU_e, rdU_n, rdLW, clI, clR, clC, clD, clW, clV, clN_e, clN_n, clL_e, clL_n] <;> first | assumption | rfl | omega)) (by omega) (by omega) ?_
  rw [hs715]
  refine x_aload_n dL_law_727 rfl rfl ?_
  refine x_iload dL_law_728 rfl ?_
  refine x_iconst dL_law_730 rfl ?_
  first | refine x_iaddN dL_law_731 (by unfold i32; omega) ?_ | refine x_iadd dL_law_731 ?_
  refine x_iald dL_law_732 (by first | assumption | first | assumption | (simp (disch := omega) only [shI, shR, shL, shC, shD, shW, sh_V, shN_e, shN_n, crI, crL, crC, crW, crV, crR_e, crR_n, crN_e, crN_n, ciR, ciL, ciD, ciN_e, ciN_n, rdI_e, rdI_n, rdC_i, rdC_o, rdW, rdU_e, rdU_n, rdLW, clI, clR, clC, clD, clW, clV, clN_e, clN_n, clL_e, clL_n]; done) | (simp (disch := omega) only [shI, shR, shL, shC, shD, shW, sh_V, shN_e, shN_n, crI, crL, crC, crW, crV, crR_e, crR_n, crN_e, crN_n, ciR, ciL, ciD, ciN_e, ciN_n, rdI_e, rdI_n, rdC_i, rdC_o, rdW, rdU_e, rdU_n, rdLW, clI, clR, clC, clD, clW, clV, clN_e, clN_n, clL_e, clL_n] <;> first | assumption | rfl | omega)) (by omega) (by omega) ?_
  rw [hs715]
  refine x_aload_n dL_law_733 rfl rfl ?_
  refine x_iload dL_law_734 rfl ?_
  refine x_iconst dL_law_736 rfl ?_
  first | refine x_iaddN dL_law_737 (by unfold i32; omega) ?_ | refine x_iadd dL_law_737 ?_
  refine x_iald dL_law_738 (by first | assumption | first | assumption | (simp (disch := omega) only [shI, shR, shL, shC, shD, shW, sh_V, shN_e, shN_n, crI, crL, crC, crW, crV, crR_e, crR_n, crN_e, crN_n, ciR, ciL, ciD, ciN_e, ciN_n, rdI_e, rdI_n, rdC_i, rdC_o, rdW, rdU_e, rdU_n, rdLW, clI, clR, clC, clD, clW, clV, clN_e, clN_n, clL_e, clL_n]; done) | (simp (disch := omega) only [shI, shR, shL, shC, shD, shW, sh_V, shN_e, shN_n, crI, crL, crC, crW, crV, crR_e, crR_n, crN_e, crN_n, ciR, ciL, ciD, ciN_e, ciN_n, rdI_e, rdI_n, rdC_i, rdC_o, rdW, rdU_e, rdU_n, rdLW, clI, clR, clC, clD, clW, clV, clN_e, clN_n, clL_e, clL_n] <;> first | assumption | rfl | omega)) (by omega) (by omega) ?_
  rw [hs715]
  refine g_callI (vs := [_, _, _, _]) (d' := d - 1) rfl (rc_done (by omega) hI715 hR715) dL_law_739 kX0_166 (by omega) (by decide) rfl (Nat.le_of_ble_eq_true rfl) (rcv_o (by first | assumption | first | assumption | (simp (disch := omega) only [shI, shR, shL, shC, shD, shW, sh_V, shN_e, shN_n, crI, crL, crC, crW, crV, crR_e, crR_n, crN_e, crN_n, ciR, ciL, ciD, ciN_e, ciN_n, rdI_e, rdI_n, rdC_i, rdC_o, rdW, rdU_e, rdU_n, rdLW, clI, clR, clC, clD, clW, clV, clN_e, clN_n, clL_e, clL_n]; done) | (simp (disch := omega) only [shI, shR, shL, shC, shD, shW, sh_V, shN_e, shN_n, crI, crL, crC, crW, crV, crR_e, crR_n, crN_e, crN_n, ciR, ciL, ciD, ciN_e, ciN_n, rdI_e, rdI_n, rdC_i, rdC_o, rdW, rdU_e, rdU_n, rdLW, clI, clR, clC, clD, clW, clV, clN_e, clN_n, clL_e, clL_n] <;> first | assumption | rfl | omega)) rfl) (fun x739 M739 h739 => ?_)
  obtain ⟨e739, hb739, ⟨w739, hv739, ht739⟩, hr739⟩ := h739
  obtain ⟨hJ739, la739, lb739, tv739, tm739, tw739, te739⟩ := hJ.st (v' := w739) hch715 hr739 hv739 ht739 (xc_done hF hA hL hn hR715)
  refine x_istore (L' := [some _, some _, some _, some _, some _, some _, some _]) dL_law_742 (by decide) rfl ?_
  refine x_aload_n dL_law_744 rfl rfl ?_
  refine g_callI (vs := [_]) (d' := d - 1) rfl (s_X8_thrown (by omega) tw739) dL_law_745 kX0_142 (by omega) (by decide) rfl (Nat.le_of_ble_eq_true rfl) (rcv_o (by first | assumption | first | assumption | (simp (disch := omega) only [shI, shR, shL, shC, shD, shW, sh_V, shN_e, shN_n, crI, crL, crC, crW, crV, crR_e, crR_n, crN_e, crN_n, ciR, ciL, ciD, ciN_e, ciN_n, rdI_e, rdI_n, rdC_i, rdC_o, rdW, rdU_e, rdU_n, rdLW, clI, clR, clC, clD, clW, clV, clN_e, clN_n, clL_e, clL_n]; done) | (simp (disch := omega) only [shI, shR, shL, shC, shD, shW, sh_V, shN_e, shN_n, crI, crL, crC, crW, crV, crR_e, crR_n, crN_e, crN_n, ciR, ciL, ciD, ciN_e, ciN_n, rdI_e, rdI_n, rdC_i, rdC_o, rdW, rdU_e, rdU_n, rdLW, clI, clR, clC, clD, clW, clV, clN_e, clN_n, clL_e, clL_n] <;> first | assumption | rfl | omega)) rfl) (fun x745 M745 h745 => ?_)
  obtain ⟨e745, f745⟩ := h745
  subst f745
  refine x_iload dL_law_748 rfl ?_
  refine x_icmp_eq (tgt := 755) dL_law_750 (by decide) (fun b750 => ?_) (fun b750 => ?_)
  · refine x_iload dL_law_755 rfl ?_
    refine x_if_ne (tgt := 772) dL_law_757 (by decide) (fun b757 => ?_) (fun b757 => ?_)
    · refine x_goto (tgt := 2737) dL_law_772 (by decide) ?_
      exact hk _ _ _ _ _ hJ739 hN715 la739 lb739
    · refine x_aload_n dL_law_760 rfl rfl ?_
      refine x_iconst dL_law_761 rfl ?_
      refine x_lald dL_law_762 (by first | assumption | first | assumption | (simp (disch := omega) only [shI, shR, shL, shC, shD, shW, sh_V, shN_e, shN_n, crI, crL, crC, crW, crV, crR_e, crR_n, crN_e, crN_n, ciR, ciL, ciD, ciN_e, ciN_n, rdI_e, rdI_n, rdC_i, rdC_o, rdW, rdU_e, rdU_n, rdLW, clI, clR, clC, clD, clW, clV, clN_e, clN_n, clL_e, clL_n]; done) | (simp (disch := omega) only [shI, shR, shL, shC, shD, shW, sh_V, shN_e, shN_n, crI, crL, crC, crW, crV, crR_e, crR_n, crN_e, crN_n, ciR, ciL, ciD, ciN_e, ciN_n, rdI_e, rdI_n, rdC_i, rdC_o, rdW, rdU_e, rdU_n, rdLW, clI, clR, clC, clD, clW, clV, clN_e, clN_n, clL_e, clL_n] <;> first | assumption | rfl | omega)) (by omega) (by omega) ?_
      refine x_iload dL_law_763 rfl ?_
      refine x_i2l dL_law_765 ?_
      refine x_lcmp dL_law_766 ?_
      refine x_if_eq (tgt := 772) dL_law_767 (by decide) (fun b767 => ?_) (fun b767 => ?_)
      · refine x_goto (tgt := 2737) dL_law_772 (by decide) ?_
        exact hk _ _ _ _ _ hJ739 hN715 la739 lb739
      · exact absurd (jlcmp_0.mpr (by have h0 : x715 = 0 := (by omega); have a1 := tm739; have a2 := hy715 h0; have a3 := hb739 h0; omega)) b767
  · exact absurd (e745.trans e739) b750
theorem cs_9 (hd : 100 ≤ d) (hJ : IV M s N len sc) (hN : N ≤ 900000000) (hi0 : 0 ≤ i ∧ i + 6 ≤ len) (hln : len ≤ 384) (hk : ∀ (M1 : Mem) (s1 : Sg) (N1 : Int) (o5 o6 : Option DV), IV M1 s1 N1 len sc → N1 ≤ N + 120 → mnx M1 ≤ mnx M + 1400 → mns M1 ≤ mns M + 6000 → WP G d mL_law 2737 [some (dR (-5)), some (dR 0), some (dR 744), some (dR 760), some (dI i), o5, o6] [] M1 Q) : WP G d mL_law 775 [some (dR (-5)), some (dR 0), some (dR 744), some (dR 760), some (dI i), none, none] [] M Q := by
  obtain ⟨v, n, A, hi, vi, tp, sz, fa⟩ := s
  obtain ⟨hC0, hT0, hF, h7, s5, hsc⟩ := id hJ
  have hC : CI M v n A hi vi tp sz fa N := hC0
  have s0 : msh M 0 = some (1, 0) := hC.1.1.1.1
  have hA : okA v := hC.2.1.1
  have hL : lawOK v := hC.2.1.2.1
  have hn : 0 ≤ n ∧ n ≤ 12 := hC.2.2.1.2.1
  refine x_aload_n dL_law_775 rfl rfl ?_
  refine x_aload_n dL_law_776 rfl rfl ?_
  refine x_iload dL_law_777 rfl ?_
  refine x_iconst dL_law_779 rfl ?_
  first | refine x_iaddN dL_law_780 (by unfold i32; omega) ?_ | refine x_iadd dL_law_780 ?_
  refine x_iald dL_law_781 (by first | assumption | first | assumption | (simp (disch := omega) only [shI, shR, shL, shC, shD, shW, sh_V, shN_e, shN_n, crI, crL, crC, crW, crV, crR_e, crR_n, crN_e, crN_n, ciR, ciL, ciD, ciN_e, ciN_n, rdI_e, rdI_n, rdC_i, rdC_o, rdW, rdU_e, rdU_n, rdLW, clI, clR, clC, clD, clW, clV, clN_e, clN_n, clL_e, clL_n]; done) | (simp (disch := omega) only [shI, shR, shL, shC, shD, shW, sh_V, shN_e, shN_n, crI, crL, crC, crW, crV, crR_e, crR_n, crN_e, crN_n, ciR, ciL, ciD, ciN_e, ciN_n, rdI_e, rdI_n, rdC_i, rdC_o, rdW, rdU_e, rdU_n, rdLW, clI, clR, clC, clD, clW, clV, clN_e, clN_n, clL_e, clL_n] <;> first | assumption | rfl | omega)) (by omega) (by omega) ?_
  rw [hsc]
  refine g_callI (vs := [_, _]) (d' := d - 1) rfl (uc_program (by omega) h7 hC) dL_law_782 kX0_167 (by omega) (by decide) rfl (Nat.le_of_ble_eq_true rfl) (rcv_o (by first | assumption | first | assumption | (simp (disch := omega) only [shI, shR, shL, shC, shD, shW, sh_V, shN_e, shN_n, crI, crL, crC, crW, crV, crR_e, crR_n, crN_e, crN_n, ciR, ciL, ciD, ciN_e, ciN_n, rdI_e, rdI_n, rdC_i, rdC_o, rdW, rdU_e, rdU_n, rdLW, clI, clR, clC, clD, clW, clV, clN_e, clN_n, clL_e, clL_n]; done) | (simp (disch := omega) only [shI, shR, shL, shC, shD, shW, sh_V, shN_e, shN_n, crI, crL, crC, crW, crV, crR_e, crR_n, crN_e, crN_n, ciR, ciL, ciD, ciN_e, ciN_n, rdI_e, rdI_n, rdC_i, rdC_o, rdW, rdU_e, rdU_n, rdLW, clI, clR, clC, clD, clW, clV, clN_e, clN_n, clL_e, clL_n] <;> first | assumption | rfl | omega)) rfl) (fun x782 M782 h782 => ?_)
  obtain ⟨s782, N782, hR782, hN782, hch782⟩ := h782
  obtain ⟨hT782, ⟨me782, mw782⟩, sf782, hs782, hok782, hX782⟩ := hJ.mid hch782
  have hI782 : TI M782 744 v n A hi vi tp sz fa := hT782
  refine x_aload_n dL_law_785 rfl rfl ?_
  refine x_aload_n dL_law_786 rfl rfl ?_
  refine x_iload dL_law_787 rfl ?_
  refine x_iconst dL_law_789 rfl ?_
  first | refine x_iaddN dL_law_790 (by unfold i32; omega) ?_ | refine x_iadd dL_law_790 ?_
  refine x_iald dL_law_791 (by first | assumption | first | assumption | (simp (disch := omega) only [shI, shR, shL, shC, shD, shW, sh_V, shN_e, shN_n, crI, crL, crC, crW, crV, crR_e, crR_n, crN_e, crN_n, ciR, ciL, ciD, ciN_e, ciN_n, rdI_e, rdI_n, rdC_i, rdC_o, rdW, rdU_e, rdU_n, rdLW, clI, clR, clC, clD, clW, clV, clN_e, clN_n, clL_e, clL_n]; done) | (simp (disch := omega) only [shI, shR, shL, shC, shD, shW, sh_V, shN_e, shN_n, crI, crL, crC, crW, crV, crR_e, crR_n, crN_e, crN_n, ciR, ciL, ciD, ciN_e, ciN_n, rdI_e, rdI_n, rdC_i, rdC_o, rdW, rdU_e, rdU_n, rdLW, clI, clR, clC, clD, clW, clV, clN_e, clN_n, clL_e, clL_n] <;> first | assumption | rfl | omega)) (by omega) (by omega) ?_
  rw [hs782]
  refine g_callI (vs := [_, _]) (d' := d - 1) rfl (rc_program (by omega) hI782 hR782) dL_law_792 kX0_170 (by omega) (by decide) rfl (Nat.le_of_ble_eq_true rfl) (rcv_o (by first | assumption | first | assumption | (simp (disch := omega) only [shI, shR, shL, shC, shD, shW, sh_V, shN_e, shN_n, crI, crL, crC, crW, crV, crR_e, crR_n, crN_e, crN_n, ciR, ciL, ciD, ciN_e, ciN_n, rdI_e, rdI_n, rdC_i, rdC_o, rdW, rdU_e, rdU_n, rdLW, clI, clR, clC, clD, clW, clV, clN_e, clN_n, clL_e, clL_n]; done) | (simp (disch := omega) only [shI, shR, shL, shC, shD, shW, sh_V, shN_e, shN_n, crI, crL, crC, crW, crV, crR_e, crR_n, crN_e, crN_n, ciR, ciL, ciD, ciN_e, ciN_n, rdI_e, rdI_n, rdC_i, rdC_o, rdW, rdU_e, rdU_n, rdLW, clI, clR, clC, clD, clW, clV, clN_e, clN_n, clL_e, clL_n] <;> first | assumption | rfl | omega)) rfl) (fun x792 M792 h792 => ?_)
  obtain ⟨e792, ht792, hr792⟩ := h792
  obtain ⟨hJ792, la792, lb792, tv792, tm792, tw792, te792⟩ := hJ.st (v' := s782.1) hch782 hr792 (fun _ _ _ => rfl) ht792 (xc_program hF hA hL hn hR782)
  refine x_icmp_eq (tgt := 2737) dL_law_795 (by decide) (fun b795 => ?_) (fun b795 => ?_)
  · exact hk _ _ _ _ _ hJ792 hN782 la792 lb792
  · exact absurd e792.symm b795
theorem cs_10 (hd : 100 ≤ d) (hJ : IV M s N len sc) (hN : N ≤ 900000000) (hi0 : 0 ≤ i ∧ i + 6 ≤ len) (hln : len ≤ 384) (hk : ∀ (M1 : Mem) (s1 : Sg) (N1 : Int) (o5 o6 : Option DV), IV M1 s1 N1 len sc → N1 ≤ N + 120 → mnx M1 ≤ mnx M + 1400 → mns M1 ≤ mns M + 6000 → WP G d mL_law 2737 [some (dR (-5)), some (dR 0), some (dR 744), some (dR 760), some (dI i), o5, o6] [] M1 Q) : WP G d mL_law 800 [some (dR (-5)), some (dR 0), some (dR 744), some (dR 760), some (dI i), none, none] [] M Q := by
  obtain ⟨v, n, A, hi, vi, tp, sz, fa⟩ := s
  obtain ⟨hC0, hT0, hF, h7, s5, hsc⟩ := id hJ
  have hC : CI M v n A hi vi tp sz fa N := hC0
  have s0 : msh M 0 = some (1, 0) := hC.1.1.1.1
  have hA : okA v := hC.2.1.1
  have hL : lawOK v := hC.2.1.2.1
  have hn : 0 ≤ n ∧ n ≤ 12 := hC.2.2.1.2.1
  refine x_aload_n dL_law_800 rfl rfl ?_
  refine x_aload_n dL_law_801 rfl rfl ?_
  refine x_iload dL_law_802 rfl ?_
  refine x_iconst dL_law_804 rfl ?_
  first | refine x_iaddN dL_law_805 (by unfold i32; omega) ?_ | refine x_iadd dL_law_805 ?_
  refine x_iald dL_law_806 (by first | assumption | first | assumption | (simp (disch := omega) only [shI, shR, shL, shC, shD, shW, sh_V, shN_e, shN_n, crI, crL, crC, crW, crV, crR_e, crR_n, crN_e, crN_n, ciR, ciL, ciD, ciN_e, ciN_n, rdI_e, rdI_n, rdC_i, rdC_o, rdW, rdU_e, rdU_n, rdLW, clI, clR, clC, clD, clW, clV, clN_e, clN_n, clL_e, clL_n]; done) | (simp (disch := omega) only [shI, shR, shL, shC, shD, shW, sh_V, shN_e, shN_n, crI, crL, crC, crW, crV, crR_e, crR_n, crN_e, crN_n, ciR, ciL, ciD, ciN_e, ciN_n, rdI_e, rdI_n, rdC_i, rdC_o, rdW, rdU_e, rdU_n, rdLW, clI, clR, clC, clD, clW, clV, clN_e, clN_n, clL_e, clL_n] <;> first | assumption | rfl | omega)) (by omega) (by omega) ?_
  rw [hsc]
  refine x_aload_n dL_law_807 rfl rfl ?_
  refine g_callI (vs := [_, _, _]) (d' := d - 1) rfl (uc_cell (by omega) h7 hC) dL_law_808 kX0_171 (by omega) (by decide) rfl (Nat.le_of_ble_eq_true rfl) (rcv_n) (fun x808 M808 h808 => ?_)
  obtain ⟨y808, s808, N808, hR808, hy808, hN808, hch808⟩ := h808
  obtain ⟨hT808, ⟨me808, mw808⟩, sf808, hs808, hok808, hX808⟩ := hJ.mid hch808
  have hI808 : TI M808 744 v n A hi vi tp sz fa := hT808
  refine x_istore (L' := [some _, some _, some _, some _, some _, some _, none]) dL_law_811 (by decide) rfl ?_
  refine x_aload_n dL_law_813 rfl rfl ?_
  refine x_aload_n dL_law_814 rfl rfl ?_
  refine x_iload dL_law_815 rfl ?_
  refine x_iconst dL_law_817 rfl ?_
  first | refine x_iaddN dL_law_818 (by unfold i32; omega) ?_ | refine x_iadd dL_law_818 ?_
  refine x_iald dL_law_819 (by first | assumption | first | assumption | (simp (disch := omega) only [shI, shR, shL, shC, shD, shW, sh_V, shN_e, shN_n, crI, crL, crC, crW, crV, crR_e, crR_n, crN_e, crN_n, ciR, ciL, ciD, ciN_e, ciN_n, rdI_e, rdI_n, rdC_i, rdC_o, rdW, rdU_e, rdU_n, rdLW, clI, clR, clC, clD, clW, clV, clN_e, clN_n, clL_e, clL_n]; done) | (simp (disch := omega) only [shI, shR, shL, shC, shD, shW, sh_V, shN_e, shN_n, crI, crL, crC, crW, crV, crR_e, crR_n, crN_e, crN_n, ciR, ciL, ciD, ciN_e, ciN_n, rdI_e, rdI_n, rdC_i, rdC_o, rdW, rdU_e, rdU_n, rdLW, clI, clR, clC, clD, clW, clV, clN_e, clN_n, clL_e, clL_n] <;> first | assumption | rfl | omega)) (by omega) (by omega) ?_
  rw [hs808]
  refine g_callI (vs := [_, _]) (d' := d - 1) rfl (rc_cell (by omega) hI808 hR808) dL_law_820 kX0_174 (by omega) (by decide) rfl (Nat.le_of_ble_eq_true rfl) (rcv_o (by first | assumption | first | assumption | (simp (disch := omega) only [shI, shR, shL, shC, shD, shW, sh_V, shN_e, shN_n, crI, crL, crC, crW, crV, crR_e, crR_n, crN_e, crN_n, ciR, ciL, ciD, ciN_e, ciN_n, rdI_e, rdI_n, rdC_i, rdC_o, rdW, rdU_e, rdU_n, rdLW, clI, clR, clC, clD, clW, clV, clN_e, clN_n, clL_e, clL_n]; done) | (simp (disch := omega) only [shI, shR, shL, shC, shD, shW, sh_V, shN_e, shN_n, crI, crL, crC, crW, crV, crR_e, crR_n, crN_e, crN_n, ciR, ciL, ciD, ciN_e, ciN_n, rdI_e, rdI_n, rdC_i, rdC_o, rdW, rdU_e, rdU_n, rdLW, clI, clR, clC, clD, clW, clV, clN_e, clN_n, clL_e, clL_n] <;> first | assumption | rfl | omega)) rfl) (fun x820 M820 h820 => ?_)
  obtain ⟨e820, hb820, ⟨w820, hv820, ht820⟩, hr820⟩ := h820
  obtain ⟨hJ820, la820, lb820, tv820, tm820, tw820, te820⟩ := hJ.st (v' := w820) hch808 hr820 hv820 ht820 (xc_cell hF hA hL hn hR808)
  refine x_istore (L' := [some _, some _, some _, some _, some _, some _, some _]) dL_law_823 (by decide) rfl ?_
  refine x_aload_n dL_law_825 rfl rfl ?_
  refine g_callI (vs := [_]) (d' := d - 1) rfl (s_X8_thrown (by omega) tw820) dL_law_826 kX0_142 (by omega) (by decide) rfl (Nat.le_of_ble_eq_true rfl) (rcv_o (by first | assumption | first | assumption | (simp (disch := omega) only [shI, shR, shL, shC, shD, shW, sh_V, shN_e, shN_n, crI, crL, crC, crW, crV, crR_e, crR_n, crN_e, crN_n, ciR, ciL, ciD, ciN_e, ciN_n, rdI_e, rdI_n, rdC_i, rdC_o, rdW, rdU_e, rdU_n, rdLW, clI, clR, clC, clD, clW, clV, clN_e, clN_n, clL_e, clL_n]; done) | (simp (disch := omega) only [shI, shR, shL, shC, shD, shW, sh_V, shN_e, shN_n, crI, crL, crC, crW, crV, crR_e, crR_n, crN_e, crN_n, ciR, ciL, ciD, ciN_e, ciN_n, rdI_e, rdI_n, rdC_i, rdC_o, rdW, rdU_e, rdU_n, rdLW, clI, clR, clC, clD, clW, clV, clN_e, clN_n, clL_e, clL_n] <;> first | assumption | rfl | omega)) rfl) (fun x826 M826 h826 => ?_)
  obtain ⟨e826, f826⟩ := h826
  subst f826
  refine x_iload dL_law_829 rfl ?_
  refine x_icmp_eq (tgt := 836) dL_law_831 (by decide) (fun b831 => ?_) (fun b831 => ?_)
  · refine x_iload dL_law_836 rfl ?_
    refine x_if_ne (tgt := 853) dL_law_838 (by decide) (fun b838 => ?_) (fun b838 => ?_)
    · refine x_goto (tgt := 2737) dL_law_853 (by decide) ?_
      exact hk _ _ _ _ _ hJ820 hN808 la820 lb820
    · refine x_aload_n dL_law_841 rfl rfl ?_
      refine x_iconst dL_law_842 rfl ?_
      refine x_lald dL_law_843 (by first | assumption | first | assumption | (simp (disch := omega) only [shI, shR, shL, shC, shD, shW, sh_V, shN_e, shN_n, crI, crL, crC, crW, crV, crR_e, crR_n, crN_e, crN_n, ciR, ciL, ciD, ciN_e, ciN_n, rdI_e, rdI_n, rdC_i, rdC_o, rdW, rdU_e, rdU_n, rdLW, clI, clR, clC, clD, clW, clV, clN_e, clN_n, clL_e, clL_n]; done) | (simp (disch := omega) only [shI, shR, shL, shC, shD, shW, sh_V, shN_e, shN_n, crI, crL, crC, crW, crV, crR_e, crR_n, crN_e, crN_n, ciR, ciL, ciD, ciN_e, ciN_n, rdI_e, rdI_n, rdC_i, rdC_o, rdW, rdU_e, rdU_n, rdLW, clI, clR, clC, clD, clW, clV, clN_e, clN_n, clL_e, clL_n] <;> first | assumption | rfl | omega)) (by omega) (by omega) ?_
      refine x_iload dL_law_844 rfl ?_
      refine x_i2l dL_law_846 ?_
      refine x_lcmp dL_law_847 ?_
      refine x_if_eq (tgt := 853) dL_law_848 (by decide) (fun b848 => ?_) (fun b848 => ?_)
      · refine x_goto (tgt := 2737) dL_law_853 (by decide) ?_
        exact hk _ _ _ _ _ hJ820 hN808 la820 lb820
      · exact absurd (jlcmp_0.mpr (by have h0 : x808 = 0 := (by omega); have a1 := tm820; have a2 := hy808 h0; have a3 := hb820 h0; omega)) b848
  · exact absurd (e826.trans e820) b831
theorem cs_11 (hd : 100 ≤ d) (hJ : IV M s N len sc) (hN : N ≤ 900000000) (hi0 : 0 ≤ i ∧ i + 6 ≤ len) (hln : len ≤ 384) (hk : ∀ (M1 : Mem) (s1 : Sg) (N1 : Int) (o5 o6 : Option DV), IV M1 s1 N1 len sc → N1 ≤ N + 120 → mnx M1 ≤ mnx M + 1400 → mns M1 ≤ mns M + 6000 → WP G d mL_law 2737 [some (dR (-5)), some (dR 0), some (dR 744), some (dR 760), some (dI i), o5, o6] [] M1 Q) : WP G d mL_law 856 [some (dR (-5)), some (dR 0), some (dR 744), some (dR 760), some (dI i), none, none] [] M Q := by
  obtain ⟨v, n, A, hi, vi, tp, sz, fa⟩ := s
  obtain ⟨hC0, hT0, hF, h7, s5, hsc⟩ := id hJ
  have hC : CI M v n A hi vi tp sz fa N := hC0
  have s0 : msh M 0 = some (1, 0) := hC.1.1.1.1
  have hA : okA v := hC.2.1.1
  have hL : lawOK v := hC.2.1.2.1
  have hn : 0 ≤ n ∧ n ≤ 12 := hC.2.2.1.2.1
  by_cases hz : sc (i + 1) = 0
  · refine x_aload_n dL_law_856 rfl rfl ?_
    refine x_aload_n dL_law_857 rfl rfl ?_
    refine x_iload dL_law_858 rfl ?_
    refine x_iconst dL_law_860 rfl ?_
    first | refine x_iaddN dL_law_861 (by unfold i32; omega) ?_ | refine x_iadd dL_law_861 ?_
    refine x_iald dL_law_862 (by first | assumption | first | assumption | (simp (disch := omega) only [shI, shR, shL, shC, shD, shW, sh_V, shN_e, shN_n, crI, crL, crC, crW, crV, crR_e, crR_n, crN_e, crN_n, ciR, ciL, ciD, ciN_e, ciN_n, rdI_e, rdI_n, rdC_i, rdC_o, rdW, rdU_e, rdU_n, rdLW, clI, clR, clC, clD, clW, clV, clN_e, clN_n, clL_e, clL_n]; done) | (simp (disch := omega) only [shI, shR, shL, shC, shD, shW, sh_V, shN_e, shN_n, crI, crL, crC, crW, crV, crR_e, crR_n, crN_e, crN_n, ciR, ciL, ciD, ciN_e, ciN_n, rdI_e, rdI_n, rdC_i, rdC_o, rdW, rdU_e, rdU_n, rdLW, clI, clR, clC, clD, clW, clV, clN_e, clN_n, clL_e, clL_n] <;> first | assumption | rfl | omega)) (by omega) (by omega) ?_
    rw [hsc]
    refine x_if_eq (tgt := 870) dL_law_863 (by decide) (fun b863 => ?_) (fun b863 => ?_)
    · refine x_iconst dL_law_870 rfl ?_
      refine x_aload_n dL_law_871 rfl rfl ?_
      refine x_iload dL_law_872 rfl ?_
      refine x_iconst dL_law_874 rfl ?_
      first | refine x_iaddN dL_law_875 (by unfold i32; omega) ?_ | refine x_iadd dL_law_875 ?_
      refine x_iald dL_law_876 (by first | assumption | first | assumption | (simp (disch := omega) only [shI, shR, shL, shC, shD, shW, sh_V, shN_e, shN_n, crI, crL, crC, crW, crV, crR_e, crR_n, crN_e, crN_n, ciR, ciL, ciD, ciN_e, ciN_n, rdI_e, rdI_n, rdC_i, rdC_o, rdW, rdU_e, rdU_n, rdLW, clI, clR, clC, clD, clW, clV, clN_e, clN_n, clL_e, clL_n]; done) | (simp (disch := omega) only [shI, shR, shL, shC, shD, shW, sh_V, shN_e, shN_n, crI, crL, crC, crW, crV, crR_e, crR_n, crN_e, crN_n, ciR, ciL, ciD, ciN_e, ciN_n, rdI_e, rdI_n, rdC_i, rdC_o, rdW, rdU_e, rdU_n, rdLW, clI, clR, clC, clD, clW, clV, clN_e, clN_n, clL_e, clL_n] <;> first | assumption | rfl | omega)) (by omega) (by omega) ?_
      rw [hsc]
      refine x_aload_n dL_law_877 rfl rfl ?_
      refine g_callI (vs := [_, _, _, _]) (d' := d - 1) rfl (uc_guest (by omega) h7 hC) dL_law_878 kX0_175 (by omega) (by decide) rfl (Nat.le_of_ble_eq_true rfl) (rcv_n) (fun x878 M878 h878 => ?_)
      obtain ⟨y878, s878, N878, hR878, hy878, hN878, hch878⟩ := h878
      obtain ⟨hT878, ⟨me878, mw878⟩, sf878, hs878, hok878, hX878⟩ := hJ.mid hch878
      have hI878 : TI M878 744 v n A hi vi tp sz fa := hT878
      refine x_istore (L' := [some _, some _, some _, some _, some _, some _, none]) dL_law_881 (by decide) rfl ?_
      refine x_aload_n dL_law_883 rfl rfl ?_
      refine x_aload_n dL_law_884 rfl rfl ?_
      refine x_iload dL_law_885 rfl ?_
      refine x_iconst dL_law_887 rfl ?_
      first | refine x_iaddN dL_law_888 (by unfold i32; omega) ?_ | refine x_iadd dL_law_888 ?_
      refine x_iald dL_law_889 (by first | assumption | first | assumption | (simp (disch := omega) only [shI, shR, shL, shC, shD, shW, sh_V, shN_e, shN_n, crI, crL, crC, crW, crV, crR_e, crR_n, crN_e, crN_n, ciR, ciL, ciD, ciN_e, ciN_n, rdI_e, rdI_n, rdC_i, rdC_o, rdW, rdU_e, rdU_n, rdLW, clI, clR, clC, clD, clW, clV, clN_e, clN_n, clL_e, clL_n]; done) | (simp (disch := omega) only [shI, shR, shL, shC, shD, shW, sh_V, shN_e, shN_n, crI, crL, crC, crW, crV, crR_e, crR_n, crN_e, crN_n, ciR, ciL, ciD, ciN_e, ciN_n, rdI_e, rdI_n, rdC_i, rdC_o, rdW, rdU_e, rdU_n, rdLW, clI, clR, clC, clD, clW, clV, clN_e, clN_n, clL_e, clL_n] <;> first | assumption | rfl | omega)) (by omega) (by omega) ?_
      rw [hs878]
      refine x_if_eq (tgt := 897) dL_law_890 (by decide) (fun b890 => ?_) (fun b890 => ?_)
      · refine x_iconst dL_law_897 rfl ?_
        refine x_aload_n dL_law_898 rfl rfl ?_
        refine x_iload dL_law_899 rfl ?_
        refine x_iconst dL_law_901 rfl ?_
        first | refine x_iaddN dL_law_902 (by unfold i32; omega) ?_ | refine x_iadd dL_law_902 ?_
        refine x_iald dL_law_903 (by first | assumption | first | assumption | (simp (disch := omega) only [shI, shR, shL, shC, shD, shW, sh_V, shN_e, shN_n, crI, crL, crC, crW, crV, crR_e, crR_n, crN_e, crN_n, ciR, ciL, ciD, ciN_e, ciN_n, rdI_e, rdI_n, rdC_i, rdC_o, rdW, rdU_e, rdU_n, rdLW, clI, clR, clC, clD, clW, clV, clN_e, clN_n, clL_e, clL_n]; done) | (simp (disch := omega) only [shI, shR, shL, shC, shD, shW, sh_V, shN_e, shN_n, crI, crL, crC, crW, crV, crR_e, crR_n, crN_e, crN_n, ciR, ciL, ciD, ciN_e, ciN_n, rdI_e, rdI_n, rdC_i, rdC_o, rdW, rdU_e, rdU_n, rdLW, clI, clR, clC, clD, clW, clV, clN_e, clN_n, clL_e, clL_n] <;> first | assumption | rfl | omega)) (by omega) (by omega) ?_
        rw [hs878]
        refine g_callI (vs := [_, _, _]) (d' := d - 1) rfl (rc_guest (by omega) hI878 hR878) dL_law_904 kX0_178 (by omega) (by decide) rfl (Nat.le_of_ble_eq_true rfl) (rcv_o (by first | assumption | first | assumption | (simp (disch := omega) only [shI, shR, shL, shC, shD, shW, sh_V, shN_e, shN_n, crI, crL, crC, crW, crV, crR_e, crR_n, crN_e, crN_n, ciR, ciL, ciD, ciN_e, ciN_n, rdI_e, rdI_n, rdC_i, rdC_o, rdW, rdU_e, rdU_n, rdLW, clI, clR, clC, clD, clW, clV, clN_e, clN_n, clL_e, clL_n]; done) | (simp (disch := omega) only [shI, shR, shL, shC, shD, shW, sh_V, shN_e, shN_n, crI, crL, crC, crW, crV, crR_e, crR_n, crN_e, crN_n, ciR, ciL, ciD, ciN_e, ciN_n, rdI_e, rdI_n, rdC_i, rdC_o, rdW, rdU_e, rdU_n, rdLW, clI, clR, clC, clD, clW, clV, clN_e, clN_n, clL_e, clL_n] <;> first | assumption | rfl | omega)) rfl) (fun x904 M904 h904 => ?_)
        obtain ⟨e904, hb904, ⟨w904, hv904, ht904⟩, hr904⟩ := h904
        obtain ⟨hJ904, la904, lb904, tv904, tm904, tw904, te904⟩ := hJ.st (v' := w904) hch878 hr904 hv904 ht904 (xc_guest hF hA hL hn hR878)
        refine x_istore (L' := [some _, some _, some _, some _, some _, some _, some _]) dL_law_907 (by decide) rfl ?_
        refine x_aload_n dL_law_909 rfl rfl ?_
        refine g_callI (vs := [_]) (d' := d - 1) rfl (s_X8_thrown (by omega) tw904) dL_law_910 kX0_142 (by omega) (by decide) rfl (Nat.le_of_ble_eq_true rfl) (rcv_o (by first | assumption | first | assumption | (simp (disch := omega) only [shI, shR, shL, shC, shD, shW, sh_V, shN_e, shN_n, crI, crL, crC, crW, crV, crR_e, crR_n, crN_e, crN_n, ciR, ciL, ciD, ciN_e, ciN_n, rdI_e, rdI_n, rdC_i, rdC_o, rdW, rdU_e, rdU_n, rdLW, clI, clR, clC, clD, clW, clV, clN_e, clN_n, clL_e, clL_n]; done) | (simp (disch := omega) only [shI, shR, shL, shC, shD, shW, sh_V, shN_e, shN_n, crI, crL, crC, crW, crV, crR_e, crR_n, crN_e, crN_n, ciR, ciL, ciD, ciN_e, ciN_n, rdI_e, rdI_n, rdC_i, rdC_o, rdW, rdU_e, rdU_n, rdLW, clI, clR, clC, clD, clW, clV, clN_e, clN_n, clL_e, clL_n] <;> first | assumption | rfl | omega)) rfl) (fun x910 M910 h910 => ?_)
        obtain ⟨e910, f910⟩ := h910
        subst f910
        refine x_iload dL_law_913 rfl ?_
        refine x_icmp_eq (tgt := 920) dL_law_915 (by decide) (fun b915 => ?_) (fun b915 => ?_)
        · refine x_iload dL_law_920 rfl ?_
          refine x_if_ne (tgt := 937) dL_law_922 (by decide) (fun b922 => ?_) (fun b922 => ?_)
          · refine x_goto (tgt := 2737) dL_law_937 (by decide) ?_
            exact hk _ _ _ _ _ hJ904 hN878 la904 lb904
          · refine x_aload_n dL_law_925 rfl rfl ?_
            refine x_iconst dL_law_926 rfl ?_
            refine x_lald dL_law_927 (by first | assumption | first | assumption | (simp (disch := omega) only [shI, shR, shL, shC, shD, shW, sh_V, shN_e, shN_n, crI, crL, crC, crW, crV, crR_e, crR_n, crN_e, crN_n, ciR, ciL, ciD, ciN_e, ciN_n, rdI_e, rdI_n, rdC_i, rdC_o, rdW, rdU_e, rdU_n, rdLW, clI, clR, clC, clD, clW, clV, clN_e, clN_n, clL_e, clL_n]; done) | (simp (disch := omega) only [shI, shR, shL, shC, shD, shW, sh_V, shN_e, shN_n, crI, crL, crC, crW, crV, crR_e, crR_n, crN_e, crN_n, ciR, ciL, ciD, ciN_e, ciN_n, rdI_e, rdI_n, rdC_i, rdC_o, rdW, rdU_e, rdU_n, rdLW, clI, clR, clC, clD, clW, clV, clN_e, clN_n, clL_e, clL_n] <;> first | assumption | rfl | omega)) (by omega) (by omega) ?_
            refine x_iload dL_law_928 rfl ?_
            refine x_i2l dL_law_930 ?_
            refine x_lcmp dL_law_931 ?_
            refine x_if_eq (tgt := 937) dL_law_932 (by decide) (fun b932 => ?_) (fun b932 => ?_)
            · refine x_goto (tgt := 2737) dL_law_937 (by decide) ?_
              exact hk _ _ _ _ _ hJ904 hN878 la904 lb904
            · exact absurd (jlcmp_0.mpr (by have h0 : x878 = 0 := (by omega); have a1 := tm904; have a2 := hy878 h0; have a3 := hb904 h0; omega)) b932
        · exact absurd (e910.trans e904) b915
      · exact absurd hz b890
    · exact absurd hz b863
  · refine x_aload_n dL_law_856 rfl rfl ?_
    refine x_aload_n dL_law_857 rfl rfl ?_
    refine x_iload dL_law_858 rfl ?_
    refine x_iconst dL_law_860 rfl ?_
    first | refine x_iaddN dL_law_861 (by unfold i32; omega) ?_ | refine x_iadd dL_law_861 ?_
    refine x_iald dL_law_862 (by first | assumption | first | assumption | (simp (disch := omega) only [shI, shR, shL, shC, shD, shW, sh_V, shN_e, shN_n, crI, crL, crC, crW, crV, crR_e, crR_n, crN_e, crN_n, ciR, ciL, ciD, ciN_e, ciN_n, rdI_e, rdI_n, rdC_i, rdC_o, rdW, rdU_e, rdU_n, rdLW, clI, clR, clC, clD, clW, clV, clN_e, clN_n, clL_e, clL_n]; done) | (simp (disch := omega) only [shI, shR, shL, shC, shD, shW, sh_V, shN_e, shN_n, crI, crL, crC, crW, crV, crR_e, crR_n, crN_e, crN_n, ciR, ciL, ciD, ciN_e, ciN_n, rdI_e, rdI_n, rdC_i, rdC_o, rdW, rdU_e, rdU_n, rdLW, clI, clR, clC, clD, clW, clV, clN_e, clN_n, clL_e, clL_n] <;> first | assumption | rfl | omega)) (by omega) (by omega) ?_
    rw [hsc]
    refine x_if_eq (tgt := 870) dL_law_863 (by decide) (fun b863 => ?_) (fun b863 => ?_)
    · exact absurd b863 hz
    · refine x_iconst dL_law_866 rfl ?_
      refine x_goto (tgt := 871) dL_law_867 (by decide) ?_
      refine x_aload_n dL_law_871 rfl rfl ?_
      refine x_iload dL_law_872 rfl ?_
      refine x_iconst dL_law_874 rfl ?_
      first | refine x_iaddN dL_law_875 (by unfold i32; omega) ?_ | refine x_iadd dL_law_875 ?_
      refine x_iald dL_law_876 (by first | assumption | first | assumption | (simp (disch := omega) only [shI, shR, shL, shC, shD, shW, sh_V, shN_e, shN_n, crI, crL, crC, crW, crV, crR_e, crR_n, crN_e, crN_n, ciR, ciL, ciD, ciN_e, ciN_n, rdI_e, rdI_n, rdC_i, rdC_o, rdW, rdU_e, rdU_n, rdLW, clI, clR, clC, clD, clW, clV, clN_e, clN_n, clL_e, clL_n]; done) | (simp (disch := omega) only [shI, shR, shL, shC, shD, shW, sh_V, shN_e, shN_n, crI, crL, crC, crW, crV, crR_e, crR_n, crN_e, crN_n, ciR, ciL, ciD, ciN_e, ciN_n, rdI_e, rdI_n, rdC_i, rdC_o, rdW, rdU_e, rdU_n, rdLW, clI, clR, clC, clD, clW, clV, clN_e, clN_n, clL_e, clL_n] <;> first | assumption | rfl | omega)) (by omega) (by omega) ?_
      rw [hsc]
      refine x_aload_n dL_law_877 rfl rfl ?_
      refine g_callI (vs := [_, _, _, _]) (d' := d - 1) rfl (uc_guest (by omega) h7 hC) dL_law_878 kX0_175 (by omega) (by decide) rfl (Nat.le_of_ble_eq_true rfl) (rcv_n) (fun x878 M878 h878 => ?_)
      obtain ⟨y878, s878, N878, hR878, hy878, hN878, hch878⟩ := h878
      obtain ⟨hT878, ⟨me878, mw878⟩, sf878, hs878, hok878, hX878⟩ := hJ.mid hch878
      have hI878 : TI M878 744 v n A hi vi tp sz fa := hT878
      refine x_istore (L' := [some _, some _, some _, some _, some _, some _, none]) dL_law_881 (by decide) rfl ?_
      refine x_aload_n dL_law_883 rfl rfl ?_
      refine x_aload_n dL_law_884 rfl rfl ?_
      refine x_iload dL_law_885 rfl ?_
      refine x_iconst dL_law_887 rfl ?_
      first | refine x_iaddN dL_law_888 (by unfold i32; omega) ?_ | refine x_iadd dL_law_888 ?_
      refine x_iald dL_law_889 (by first | assumption | first | assumption | (simp (disch := omega) only [shI, shR, shL, shC, shD, shW, sh_V, shN_e, shN_n, crI, crL, crC, crW, crV, crR_e, crR_n, crN_e, crN_n, ciR, ciL, ciD, ciN_e, ciN_n, rdI_e, rdI_n, rdC_i, rdC_o, rdW, rdU_e, rdU_n, rdLW, clI, clR, clC, clD, clW, clV, clN_e, clN_n, clL_e, clL_n]; done) | (simp (disch := omega) only [shI, shR, shL, shC, shD, shW, sh_V, shN_e, shN_n, crI, crL, crC, crW, crV, crR_e, crR_n, crN_e, crN_n, ciR, ciL, ciD, ciN_e, ciN_n, rdI_e, rdI_n, rdC_i, rdC_o, rdW, rdU_e, rdU_n, rdLW, clI, clR, clC, clD, clW, clV, clN_e, clN_n, clL_e, clL_n] <;> first | assumption | rfl | omega)) (by omega) (by omega) ?_
      rw [hs878]
      refine x_if_eq (tgt := 897) dL_law_890 (by decide) (fun b890 => ?_) (fun b890 => ?_)
      · exact absurd b890 hz
      · refine x_iconst dL_law_893 rfl ?_
        refine x_goto (tgt := 898) dL_law_894 (by decide) ?_
        refine x_aload_n dL_law_898 rfl rfl ?_
        refine x_iload dL_law_899 rfl ?_
        refine x_iconst dL_law_901 rfl ?_
        first | refine x_iaddN dL_law_902 (by unfold i32; omega) ?_ | refine x_iadd dL_law_902 ?_
        refine x_iald dL_law_903 (by first | assumption | first | assumption | (simp (disch := omega) only [shI, shR, shL, shC, shD, shW, sh_V, shN_e, shN_n, crI, crL, crC, crW, crV, crR_e, crR_n, crN_e, crN_n, ciR, ciL, ciD, ciN_e, ciN_n, rdI_e, rdI_n, rdC_i, rdC_o, rdW, rdU_e, rdU_n, rdLW, clI, clR, clC, clD, clW, clV, clN_e, clN_n, clL_e, clL_n]; done) | (simp (disch := omega) only [shI, shR, shL, shC, shD, shW, sh_V, shN_e, shN_n, crI, crL, crC, crW, crV, crR_e, crR_n, crN_e, crN_n, ciR, ciL, ciD, ciN_e, ciN_n, rdI_e, rdI_n, rdC_i, rdC_o, rdW, rdU_e, rdU_n, rdLW, clI, clR, clC, clD, clW, clV, clN_e, clN_n, clL_e, clL_n] <;> first | assumption | rfl | omega)) (by omega) (by omega) ?_
        rw [hs878]
        refine g_callI (vs := [_, _, _]) (d' := d - 1) rfl (rc_guest (by omega) hI878 hR878) dL_law_904 kX0_178 (by omega) (by decide) rfl (Nat.le_of_ble_eq_true rfl) (rcv_o (by first | assumption | first | assumption | (simp (disch := omega) only [shI, shR, shL, shC, shD, shW, sh_V, shN_e, shN_n, crI, crL, crC, crW, crV, crR_e, crR_n, crN_e, crN_n, ciR, ciL, ciD, ciN_e, ciN_n, rdI_e, rdI_n, rdC_i, rdC_o, rdW, rdU_e, rdU_n, rdLW, clI, clR, clC, clD, clW, clV, clN_e, clN_n, clL_e, clL_n]; done) | (simp (disch := omega) only [shI, shR, shL, shC, shD, shW, sh_V, shN_e, shN_n, crI, crL, crC, crW, crV, crR_e, crR_n, crN_e, crN_n, ciR, ciL, ciD, ciN_e, ciN_n, rdI_e, rdI_n, rdC_i, rdC_o, rdW, rdU_e, rdU_n, rdLW, clI, clR, clC, clD, clW, clV, clN_e, clN_n, clL_e, clL_n] <;> first | assumption | rfl | omega)) rfl) (fun x904 M904 h904 => ?_)
        obtain ⟨e904, hb904, ⟨w904, hv904, ht904⟩, hr904⟩ := h904
        obtain ⟨hJ904, la904, lb904, tv904, tm904, tw904, te904⟩ := hJ.st (v' := w904) hch878 hr904 hv904 ht904 (xc_guest hF hA hL hn hR878)
        refine x_istore (L' := [some _, some _, some _, some _, some _, some _, some _]) dL_law_907 (by decide) rfl ?_
        refine x_aload_n dL_law_909 rfl rfl ?_
        refine g_callI (vs := [_]) (d' := d - 1) rfl (s_X8_thrown (by omega) tw904) dL_law_910 kX0_142 (by omega) (by decide) rfl (Nat.le_of_ble_eq_true rfl) (rcv_o (by first | assumption | first | assumption | (simp (disch := omega) only [shI, shR, shL, shC, shD, shW, sh_V, shN_e, shN_n, crI, crL, crC, crW, crV, crR_e, crR_n, crN_e, crN_n, ciR, ciL, ciD, ciN_e, ciN_n, rdI_e, rdI_n, rdC_i, rdC_o, rdW, rdU_e, rdU_n, rdLW, clI, clR, clC, clD, clW, clV, clN_e, clN_n, clL_e, clL_n]; done) | (simp (disch := omega) only [shI, shR, shL, shC, shD, shW, sh_V, shN_e, shN_n, crI, crL, crC, crW, crV, crR_e, crR_n, crN_e, crN_n, ciR, ciL, ciD, ciN_e, ciN_n, rdI_e, rdI_n, rdC_i, rdC_o, rdW, rdU_e, rdU_n, rdLW, clI, clR, clC, clD, clW, clV, clN_e, clN_n, clL_e, clL_n] <;> first | assumption | rfl | omega)) rfl) (fun x910 M910 h910 => ?_)
        obtain ⟨e910, f910⟩ := h910
        subst f910
        refine x_iload dL_law_913 rfl ?_
        refine x_icmp_eq (tgt := 920) dL_law_915 (by decide) (fun b915 => ?_) (fun b915 => ?_)
        · refine x_iload dL_law_920 rfl ?_
          refine x_if_ne (tgt := 937) dL_law_922 (by decide) (fun b922 => ?_) (fun b922 => ?_)
          · refine x_goto (tgt := 2737) dL_law_937 (by decide) ?_
            exact hk _ _ _ _ _ hJ904 hN878 la904 lb904
          · refine x_aload_n dL_law_925 rfl rfl ?_
            refine x_iconst dL_law_926 rfl ?_
            refine x_lald dL_law_927 (by first | assumption | first | assumption | (simp (disch := omega) only [shI, shR, shL, shC, shD, shW, sh_V, shN_e, shN_n, crI, crL, crC, crW, crV, crR_e, crR_n, crN_e, crN_n, ciR, ciL, ciD, ciN_e, ciN_n, rdI_e, rdI_n, rdC_i, rdC_o, rdW, rdU_e, rdU_n, rdLW, clI, clR, clC, clD, clW, clV, clN_e, clN_n, clL_e, clL_n]; done) | (simp (disch := omega) only [shI, shR, shL, shC, shD, shW, sh_V, shN_e, shN_n, crI, crL, crC, crW, crV, crR_e, crR_n, crN_e, crN_n, ciR, ciL, ciD, ciN_e, ciN_n, rdI_e, rdI_n, rdC_i, rdC_o, rdW, rdU_e, rdU_n, rdLW, clI, clR, clC, clD, clW, clV, clN_e, clN_n, clL_e, clL_n] <;> first | assumption | rfl | omega)) (by omega) (by omega) ?_
            refine x_iload dL_law_928 rfl ?_
            refine x_i2l dL_law_930 ?_
            refine x_lcmp dL_law_931 ?_
            refine x_if_eq (tgt := 937) dL_law_932 (by decide) (fun b932 => ?_) (fun b932 => ?_)
            · refine x_goto (tgt := 2737) dL_law_937 (by decide) ?_
              exact hk _ _ _ _ _ hJ904 hN878 la904 lb904
            · exact absurd (jlcmp_0.mpr (by have h0 : x878 = 0 := (by omega); have a1 := tm904; have a2 := hy878 h0; have a3 := hb904 h0; omega)) b932
        · exact absurd (e910.trans e904) b915
theorem cs_12 (hd : 100 ≤ d) (hJ : IV M s N len sc) (hN : N ≤ 900000000) (hi0 : 0 ≤ i ∧ i + 6 ≤ len) (hln : len ≤ 384) (hk : ∀ (M1 : Mem) (s1 : Sg) (N1 : Int) (o5 o6 : Option DV), IV M1 s1 N1 len sc → N1 ≤ N + 120 → mnx M1 ≤ mnx M + 1400 → mns M1 ≤ mns M + 6000 → WP G d mL_law 2737 [some (dR (-5)), some (dR 0), some (dR 744), some (dR 760), some (dI i), o5, o6] [] M1 Q) : WP G d mL_law 940 [some (dR (-5)), some (dR 0), some (dR 744), some (dR 760), some (dI i), none, none] [] M Q := by
  obtain ⟨v, n, A, hi, vi, tp, sz, fa⟩ := s
  obtain ⟨hC0, hT0, hF, h7, s5, hsc⟩ := id hJ
  have hC : CI M v n A hi vi tp sz fa N := hC0
  have s0 : msh M 0 = some (1, 0) := hC.1.1.1.1
  have hA : okA v := hC.2.1.1
  have hL : lawOK v := hC.2.1.2.1
  have hn : 0 ≤ n ∧ n ≤ 12 := hC.2.2.1.2.1
  refine x_aload_n dL_law_940 rfl rfl ?_
  refine x_aload_n dL_law_941 rfl rfl ?_
  refine x_iload dL_law_942 rfl ?_
  refine x_iconst dL_law_944 rfl ?_
  first | refine x_iaddN dL_law_945 (by unfold i32; omega) ?_ | refine x_iadd dL_law_945 ?_
  refine x_iald dL_law_946 (by first | assumption | first | assumption | (simp (disch := omega) only [shI, shR, shL, shC, shD, shW, sh_V, shN_e, shN_n, crI, crL, crC, crW, crV, crR_e, crR_n, crN_e, crN_n, ciR, ciL, ciD, ciN_e, ciN_n, rdI_e, rdI_n, rdC_i, rdC_o, rdW, rdU_e, rdU_n, rdLW, clI, clR, clC, clD, clW, clV, clN_e, clN_n, clL_e, clL_n]; done) | (simp (disch := omega) only [shI, shR, shL, shC, shD, shW, sh_V, shN_e, shN_n, crI, crL, crC, crW, crV, crR_e, crR_n, crN_e, crN_n, ciR, ciL, ciD, ciN_e, ciN_n, rdI_e, rdI_n, rdC_i, rdC_o, rdW, rdU_e, rdU_n, rdLW, clI, clR, clC, clD, clW, clV, clN_e, clN_n, clL_e, clL_n] <;> first | assumption | rfl | omega)) (by omega) (by omega) ?_
  rw [hsc]
  refine x_aload_n dL_law_947 rfl rfl ?_
  refine g_callI (vs := [_, _, _]) (d' := d - 1) rfl (uc_ticks (by omega) h7 hC hN) dL_law_948 kX0_179 (by omega) (by decide) rfl (Nat.le_of_ble_eq_true rfl) (rcv_n) (fun x948 M948 h948 => ?_)
  obtain ⟨y948, s948, N948, hR948, hy948, hN948, hch948⟩ := h948
  obtain ⟨hT948, ⟨me948, mw948⟩, sf948, hs948, hok948, hX948⟩ := hJ.mid hch948
  have hI948 : TI M948 744 v n A hi vi tp sz fa := hT948
  refine x_istore (L' := [some _, some _, some _, some _, some _, some _, none]) dL_law_951 (by decide) rfl ?_
  refine x_aload_n dL_law_953 rfl rfl ?_
  refine x_aload_n dL_law_954 rfl rfl ?_
  refine x_iload dL_law_955 rfl ?_
  refine x_iconst dL_law_957 rfl ?_
  first | refine x_iaddN dL_law_958 (by unfold i32; omega) ?_ | refine x_iadd dL_law_958 ?_
  refine x_iald dL_law_959 (by first | assumption | first | assumption | (simp (disch := omega) only [shI, shR, shL, shC, shD, shW, sh_V, shN_e, shN_n, crI, crL, crC, crW, crV, crR_e, crR_n, crN_e, crN_n, ciR, ciL, ciD, ciN_e, ciN_n, rdI_e, rdI_n, rdC_i, rdC_o, rdW, rdU_e, rdU_n, rdLW, clI, clR, clC, clD, clW, clV, clN_e, clN_n, clL_e, clL_n]; done) | (simp (disch := omega) only [shI, shR, shL, shC, shD, shW, sh_V, shN_e, shN_n, crI, crL, crC, crW, crV, crR_e, crR_n, crN_e, crN_n, ciR, ciL, ciD, ciN_e, ciN_n, rdI_e, rdI_n, rdC_i, rdC_o, rdW, rdU_e, rdU_n, rdLW, clI, clR, clC, clD, clW, clV, clN_e, clN_n, clL_e, clL_n] <;> first | assumption | rfl | omega)) (by omega) (by omega) ?_
  rw [hs948]
  refine g_callI (vs := [_, _]) (d' := d - 1) rfl (rc_ticks (by omega) hI948 hok948 hR948) dL_law_960 kX0_181 (by omega) (by decide) rfl (Nat.le_of_ble_eq_true rfl) (rcv_o (by first | assumption | first | assumption | (simp (disch := omega) only [shI, shR, shL, shC, shD, shW, sh_V, shN_e, shN_n, crI, crL, crC, crW, crV, crR_e, crR_n, crN_e, crN_n, ciR, ciL, ciD, ciN_e, ciN_n, rdI_e, rdI_n, rdC_i, rdC_o, rdW, rdU_e, rdU_n, rdLW, clI, clR, clC, clD, clW, clV, clN_e, clN_n, clL_e, clL_n]; done) | (simp (disch := omega) only [shI, shR, shL, shC, shD, shW, sh_V, shN_e, shN_n, crI, crL, crC, crW, crV, crR_e, crR_n, crN_e, crN_n, ciR, ciL, ciD, ciN_e, ciN_n, rdI_e, rdI_n, rdC_i, rdC_o, rdW, rdU_e, rdU_n, rdLW, clI, clR, clC, clD, clW, clV, clN_e, clN_n, clL_e, clL_n] <;> first | assumption | rfl | omega)) rfl) (fun x960 M960 h960 => ?_)
  obtain ⟨e960, hb960, ⟨w960, hv960, ht960⟩, hr960⟩ := h960
  obtain ⟨hJ960, la960, lb960, tv960, tm960, tw960, te960⟩ := hJ.st (v' := w960) hch948 hr960 hv960 ht960 (xc_ticks hF hA hL hn hR948)
  refine x_istore (L' := [some _, some _, some _, some _, some _, some _, some _]) dL_law_963 (by decide) rfl ?_
  refine x_aload_n dL_law_965 rfl rfl ?_
  refine g_callI (vs := [_]) (d' := d - 1) rfl (s_X8_thrown (by omega) tw960) dL_law_966 kX0_142 (by omega) (by decide) rfl (Nat.le_of_ble_eq_true rfl) (rcv_o (by first | assumption | first | assumption | (simp (disch := omega) only [shI, shR, shL, shC, shD, shW, sh_V, shN_e, shN_n, crI, crL, crC, crW, crV, crR_e, crR_n, crN_e, crN_n, ciR, ciL, ciD, ciN_e, ciN_n, rdI_e, rdI_n, rdC_i, rdC_o, rdW, rdU_e, rdU_n, rdLW, clI, clR, clC, clD, clW, clV, clN_e, clN_n, clL_e, clL_n]; done) | (simp (disch := omega) only [shI, shR, shL, shC, shD, shW, sh_V, shN_e, shN_n, crI, crL, crC, crW, crV, crR_e, crR_n, crN_e, crN_n, ciR, ciL, ciD, ciN_e, ciN_n, rdI_e, rdI_n, rdC_i, rdC_o, rdW, rdU_e, rdU_n, rdLW, clI, clR, clC, clD, clW, clV, clN_e, clN_n, clL_e, clL_n] <;> first | assumption | rfl | omega)) rfl) (fun x966 M966 h966 => ?_)
  obtain ⟨e966, f966⟩ := h966
  subst f966
  refine x_iload dL_law_969 rfl ?_
  refine x_icmp_eq (tgt := 976) dL_law_971 (by decide) (fun b971 => ?_) (fun b971 => ?_)
  · refine x_iload dL_law_976 rfl ?_
    refine x_if_ne (tgt := 993) dL_law_978 (by decide) (fun b978 => ?_) (fun b978 => ?_)
    · refine x_goto (tgt := 2737) dL_law_993 (by decide) ?_
      exact hk _ _ _ _ _ hJ960 hN948 la960 lb960
    · refine x_aload_n dL_law_981 rfl rfl ?_
      refine x_iconst dL_law_982 rfl ?_
      refine x_lald dL_law_983 (by first | assumption | first | assumption | (simp (disch := omega) only [shI, shR, shL, shC, shD, shW, sh_V, shN_e, shN_n, crI, crL, crC, crW, crV, crR_e, crR_n, crN_e, crN_n, ciR, ciL, ciD, ciN_e, ciN_n, rdI_e, rdI_n, rdC_i, rdC_o, rdW, rdU_e, rdU_n, rdLW, clI, clR, clC, clD, clW, clV, clN_e, clN_n, clL_e, clL_n]; done) | (simp (disch := omega) only [shI, shR, shL, shC, shD, shW, sh_V, shN_e, shN_n, crI, crL, crC, crW, crV, crR_e, crR_n, crN_e, crN_n, ciR, ciL, ciD, ciN_e, ciN_n, rdI_e, rdI_n, rdC_i, rdC_o, rdW, rdU_e, rdU_n, rdLW, clI, clR, clC, clD, clW, clV, clN_e, clN_n, clL_e, clL_n] <;> first | assumption | rfl | omega)) (by omega) (by omega) ?_
      refine x_iload dL_law_984 rfl ?_
      refine x_i2l dL_law_986 ?_
      refine x_lcmp dL_law_987 ?_
      refine x_if_eq (tgt := 993) dL_law_988 (by decide) (fun b988 => ?_) (fun b988 => ?_)
      · refine x_goto (tgt := 2737) dL_law_993 (by decide) ?_
        exact hk _ _ _ _ _ hJ960 hN948 la960 lb960
      · exact absurd (jlcmp_0.mpr (by have h0 : x948 = 0 := (by omega); have a1 := tm960; have a2 := hy948 h0; have a3 := hb960 h0; omega)) b988
  · exact absurd (e966.trans e960) b971
end LW

