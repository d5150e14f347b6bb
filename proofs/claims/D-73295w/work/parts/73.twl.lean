/-! GuestViewModel: traits, the law -/
/-- all but what computations leave behind and the traits -/
def TG (m : Int) (f g : Ci) : Prop := ∀ a k, ¬ scr m a k → ¬ a = m + 10 → g a k = f a k
theorem TG.rfl {m : Int} {f : Ci} : TG m f f := fun _ _ _ _ => _root_.rfl
theorem TG.trans {m : Int} {f g h : Ci} (a : TG m f g) (b : TG m g h) : TG m f h := fun x k q r => (b x k q r).trans (a x k q r)
theorem TE.tg {m : Int} {f g : Ci} (h : TE m f g) : TG m f g := fun a k r _ => h a k r
theorem TG.w {m : Int} {f g : Ci} {v : Vw} (h : TG m f g) (hw : f (m + 1) = v) : g (m + 1) = v := by
  rw [← hw]
  exact funext fun k => h _ _ (by unfold scr; omega) (by omega)
def TLl (m : Int) (l l' : Ci) : Prop := ∀ a k, ¬ a = m + 11 → l' a k = l a k
theorem TE.t10 {m : Int} {f g : Ci} (h : TE m f g) (p : Int) : g (m + 10) p = f (m + 10) p := h _ _ (by unfold scr; omega)
noncomputable def trR (v : Vw) (p : Int) : Nat → Int
  | 0 => 0
  | t + 1 => trR v p t + trtV v p t * pw t
theorem trR_4 (v : Vw) (p : Int) : trR v p 4 = traV v p := by
  unfold traV
  show 0 + trtV v p 0 * 1 + trtV v p 1 * 2 + trtV v p 2 * 4 + trtV v p 3 * 8 = _
  omega
theorem trR_r (v : Vw) (p : Int) : ∀ t : Nat, 0 ≤ trR v p t ∧ trR v p t < pw t := by
  intro t
  induction t with
  | zero => exact ⟨Int.le_refl 0, show (0 : Int) < 1 by omega⟩
  | succ t ih =>
    have e : pw ((t + 1 : Nat) : Int) = 2 * pw t := by
      rw [show ((t + 1 : Nat) : Int) = (t : Int) + 1 by omega]
      exact pw_s (by omega)
    rw [e]
    show 0 ≤ trR v p t + trtV v p t * pw t ∧ trR v p t + trtV v p t * pw t < 2 * pw t
    rcases vP_r (witV v p t ≠ -1) with q | q
    · rw [show trtV v p t = 0 from q]; omega
    · rw [show trtV v p t = 1 from q]; omega
theorem trR_s {v : Vw} {p k : Int} (hk : 0 ≤ k) : trR v p (k + 1).toNat = trR v p k.toNat + trtV v p k * pw k := by
  rw [show (k + 1).toNat = k.toNat + 1 by omega]
  show trR v p k.toNat + trtV v p ((k.toNat : Nat) : Int) * pw ((k.toNat : Nat) : Int) = _
  rw [show ((k.toNat : Nat) : Int) = k by omega]
theorem trR_rk (v : Vw) (p : Int) {k : Int} (hk : 0 ≤ k) : 0 ≤ trR v p k.toNat ∧ trR v p k.toNat < pw k := by
  have := trR_r v p k.toNat
  rw [show ((k.toNat : Nat) : Int) = k by omega] at this
  exact this
/-- the four traits out of their bits -/
theorem tra_b (v : Vw) (p : Int) : traV v p % 2 = trtV v p 0 ∧ traV v p / 2 % 2 = trtV v p 1 ∧ traV v p / 4 % 2 = trtV v p 2 ∧ traV v p / 8 % 2 = trtV v p 3 ∧ traV v p % 8 = trtV v p 0 + 2 * trtV v p 1 + 4 * trtV v p 2 := by
  have a : trtV v p 0 = 0 ∨ trtV v p 0 = 1 := vP_r _
  have b : trtV v p 1 = 0 ∨ trtV v p 1 = 1 := vP_r _
  have c : trtV v p 2 = 0 ∨ trtV v p 2 = 1 := vP_r _
  have e : trtV v p 3 = 0 ∨ trtV v p 3 = 1 := vP_r _
  unfold traV
  omega
theorem tra_h {v : Vw} {p k : Int} (hk : 0 ≤ k ∧ k < 4) : jand (jshr (traV v p) k) 1 = trtV v p k := by
  have hr := traV_r v p
  have hb := tra_b v p
  rw [has_e (by unfold i32; omega) (by omega)]
  unfold bitI
  rcases (show k = 0 ∨ k = 1 ∨ k = 2 ∨ k = 3 by omega) with rfl | rfl | rfl | rfl
  · rw [pw_0]; omega
  · rw [pw_1]; exact hb.2.1
  · rw [pw_2]; exact hb.2.2.1
  · rw [pw_3]; exact hb.2.2.2.1
theorem TrOk.te {f g : Ci} {m : Int} {v : Vw} (h : TrOk f m v) (he : TE m f g) : TrOk g m v := fun p a b => (he.t10 p).trans (h p a b)
section X8
variable {G : GW} {d : Nat} {M : Mem} {m a b c p k i what n st : Int} {v : Vw}
theorem s_X8_laysTraits (hd : 17 ≤ d) (hT : TwS (msh M) (mcr M) m) (hw : mci M (m + 1) = v) (hv : okB v) (hK : KnOk (mci M) (mcl M) m) (hsk : sk01 (mci M) m) : CS G d mX8_laysTraits [dR m] M (postN fun M1 => ∃ g l, M1 = wL M g l ∧ TG m (mci M) g ∧ TLl m (mcl M) l ∧ KnOk g l m ∧ TrOk g m v ∧ sk01 g m) := by
  have hT_ := hT; obtain ⟨p0, p1, ⟨c1, c2, c3, c4, c5, c6, c7, c8, c9, c10, c11, c12, c13, c14, c15⟩, ⟨t1, t2, t3, t4, t5, t6, t7, t8, t9, t10, t11, t12, t13, t14, t15⟩⟩ := hT_
  have hv0 := hv.1
  refine CS.mkQ (by decide) (Nat.le_of_ble_eq_true rfl) fun Q hQ => ?_
  have loop : ∀ (t : Nat) (p : Int) (g l : Ci), (v 0 - p).toNat = t → (0 ≤ p) → (p ≤ v 0) → (TG m (mci M) g) → (TLl m (mcl M) l) → (KnOk g l m) → (sk01 g m) → (∀ q, 0 ≤ q → q < p → g (m + 10) q = traV v q) → WP G d mX8_laysTraits 2 [some (dR m), some (dI p), none, none, none] [] (wL M g l) Q := by
    intro t
    induction t using Nat.strongRecOn with
    | _ t ih =>
      intro p g l ht h0 h1 hf hl hK hsk hdn
      have hw : g (m + 1) = v := hf.w hw
      by_cases hpv : p < v 0
      · have hop := hv.op p h0 hpv
        have hp8 : 0 ≤ p ∧ p < 8 := by omega
        have cont : ∀ g' l' : Ci, TG m (mci M) g' → TLl m (mcl M) l' → KnOk g' l' m → sk01 g' m → (∀ q, 0 ≤ q → q < p + 1 → g' (m + 10) q = traV v q) → WP G d mX8_laysTraits 87 [some (dR m), some (dI p), none, none, none] [] (wL M g' l') Q := by
          intro g' l' c1 c2 c3 c4 c5
          first | refine x_iincN (L' := [some _, some _, none, none, none]) dX8_laysTraits_87 rfl (by decide) (by unfold i32; omega) rfl ?_ | refine x_iinc (L' := [some _, some _, none, none, none]) dX8_laysTraits_87 rfl (by decide) rfl ?_
          refine x_goto (tgt := 2) dX8_laysTraits_90 (by decide) ?_
          exact ih _ (by omega) (p + 1) g' l' rfl (by omega) (by omega) c1 c2 c3 c4 c5
        have inner : ∀ (t2 : Nat) (k : Int) (g' : Ci), (4 - k).toNat = t2 → (0 ≤ k) → (k ≤ 4) → (TG m g g') → (sk01 g' m) → (∀ q, ¬ q = p → g' (m + 10) q = g (m + 10) q) → (g' (m + 10) p = trR v p k.toNat) → WP G d mX8_laysTraits 47 [some (dR m), some (dI p), some (dL (hashV v p)), none, some (dI k)] [] (wL M g' (up l (m + 11) p (hashV v p))) Q := by
          intro t2
          induction t2 using Nat.strongRecOn with
          | _ t2 ih2 =>
            intro k g' ht2 k0 k1 hf' hsk' hot hme
            have hw : g' (m + 1) = v := hf'.w hw
            have hr := trR_rk v p k0
            refine x_iload dX8_laysTraits_47 rfl ?_
            refine x_iconst dX8_laysTraits_49 rfl ?_
            refine x_icmp_gt (tgt := 87) dX8_laysTraits_50 (by decide) (fun h50 => ?_) (fun h50 => ?_)
            · have hk4 : k = 4 := by omega
              subst hk4
              rw [show (4 : Int).toNat = 4 from rfl, trR_4] at hme
              refine x_fgt (L' := [some (dR m), some (dI p), none, none, none]) (by simp [subL]) (cont g' _ (TG.trans hf hf') (fun a' k' q => ?_) (fun q q0 q1 => ?_) hsk' fun q q0 q1 => ?_)
              · rw [rdU_n (by omega)]; exact hl a' k' q
              · by_cases e : q = p
                · subst e
                  exact Or.inr ⟨v, hop, rdU_e ⟨rfl, rfl⟩, hme⟩
                · rw [rdU_n (by omega), hot q e]
                  exact hK q q0 q1
              · by_cases e : q = p
                · subst e; exact hme
                · rw [hot q e]; exact hdn q q0 (by omega)
            · refine x_aload_n dX8_laysTraits_53 rfl rfl ?_
              refine g_getR (kI := 26) rfl dX8_laysTraits_54 fX8_45_8 (by first | assumption | exact hT.2.1) (by first | assumption | exact hT.2.1) ?_
              refine x_iload_n dX8_laysTraits_57 rfl rfl ?_
              refine x_dup2 dX8_laysTraits_58 rfl rfl ?_
              refine x_iald dX8_laysTraits_59 (by first | assumption | exact hT.2.1) (by omega) (by omega) ?_
              try simp (disch := omega) only [rdI_e, rdI_n, rdC_i, rdC_o, rdW, rdR, rdU_e, rdU_n, rdLW, Int.add_zero, hme]
              refine x_aload_n dX8_laysTraits_60 rfl rfl ?_
              refine x_iload_n dX8_laysTraits_61 rfl rfl ?_
              refine x_iload dX8_laysTraits_62 rfl ?_
              refine g_callI (vs := [_, _, _]) (d' := d - 1) rfl (s_X8_witnessOf (M := wL M g' (up l (m + 11) p (hashV v p))) (by omega) hT hw hop hp8 ⟨k0, by omega⟩ hsk') dX8_laysTraits_64 kX8_365 (by omega) (by decide) rfl (Nat.le_of_ble_eq_true rfl) (rcv_o (by first | assumption | exact hT.2.1) rfl) (fun x64 M64 h64 => ?_)
              obtain ⟨e64, g64, hM64, q64, z64⟩ := h64
              subst hM64
              have hpk := pw_pos k
              have h8 : pw k ≤ 8 := by
                rcases (show k = 0 ∨ k = 1 ∨ k = 2 ∨ k = 3 by omega) with rfl | rfl | rfl | rfl <;> decide
              rw [e64]
              have hts := trR_s (v := v) (p := p) k0
              refine x_iconst dX8_laysTraits_67 rfl ?_
              refine x_icmp_ne (tgt := 75) dX8_laysTraits_68 (by decide) (fun h68 => ?_) (fun h68 => ?_)
              · refine x_iconst dX8_laysTraits_75 rfl ?_
                refine x_iload dX8_laysTraits_76 rfl ?_
                refine x_ishl dX8_laysTraits_78 ?_
                refine x_ior dX8_laysTraits_79 ?_
                first
                | rw [jshl_1 ⟨k0, by omega⟩, jor_lt ⟨k0, by omega⟩ hr]
                | rw [jor_z ⟨hr.1, by omega⟩]
                refine x_iast (by omega) dX8_laysTraits_80 (by first | assumption | exact hT.2.1) (by omega) (by omega) ?_
                first | refine x_iincN (L' := [some _, some _, some _, none, some _]) dX8_laysTraits_81 rfl (by decide) (by unfold i32; omega) rfl ?_ | refine x_iinc (L' := [some _, some _, some _, none, some _]) dX8_laysTraits_81 rfl (by decide) rfl ?_
                refine x_goto (tgt := 47) dX8_laysTraits_84 (by decide) ?_
                refine WP.mem (M1 := wL M (up g64 (m + 10) p (trR v p (k + 1).toNat)) (up l (m + 11) p (hashV v p))) ?_ (ih2 _ (by omega) (k + 1) _ rfl (by omega) (by omega) (fun a' k' q1 q2 => ?_) ?_ (fun q hq => ?_) ?_)
                · rw [hts]
                  first
                  | (rw [show trtV v p k = 1 from vP_t h68, Int.one_mul]; rfl)
                  | (rw [show trtV v p k = 0 from vP_f fun y => y h68, Int.zero_mul, Int.add_zero]; rfl)
                · have := hf' a' k' q1 q2
                  rw [rdU_n (by omega), q64 _ _ q1]
                  exact this
                · unfold sk01 at z64 ⊢
                  rw [rdU_n (by omega)]
                  exact z64
                · rw [rdU_n (by omega), q64 _ _ (by unfold scr; omega)]
                  exact hot q hq
                · exact rdU_e ⟨rfl, rfl⟩
              · refine x_iconst dX8_laysTraits_71 rfl ?_
                refine x_goto (tgt := 79) dX8_laysTraits_72 (by decide) ?_
                refine x_ior dX8_laysTraits_79 ?_
                first
                | rw [jshl_1 ⟨k0, by omega⟩, jor_lt ⟨k0, by omega⟩ hr]
                | rw [jor_z ⟨hr.1, by omega⟩]
                refine x_iast (by omega) dX8_laysTraits_80 (by first | assumption | exact hT.2.1) (by omega) (by omega) ?_
                first | refine x_iincN (L' := [some _, some _, some _, none, some _]) dX8_laysTraits_81 rfl (by decide) (by unfold i32; omega) rfl ?_ | refine x_iinc (L' := [some _, some _, some _, none, some _]) dX8_laysTraits_81 rfl (by decide) rfl ?_
                refine x_goto (tgt := 47) dX8_laysTraits_84 (by decide) ?_
                refine WP.mem (M1 := wL M (up g64 (m + 10) p (trR v p (k + 1).toNat)) (up l (m + 11) p (hashV v p))) ?_ (ih2 _ (by omega) (k + 1) _ rfl (by omega) (by omega) (fun a' k' q1 q2 => ?_) ?_ (fun q hq => ?_) ?_)
                · rw [hts]
                  first
                  | (rw [show trtV v p k = 1 from vP_t h68, Int.one_mul]; rfl)
                  | (rw [show trtV v p k = 0 from vP_f fun y => y h68, Int.zero_mul, Int.add_zero]; rfl)
                · have := hf' a' k' q1 q2
                  rw [rdU_n (by omega), q64 _ _ q1]
                  exact this
                · unfold sk01 at z64 ⊢
                  rw [rdU_n (by omega)]
                  exact z64
                · rw [rdU_n (by omega), q64 _ _ (by unfold scr; omega)]
                  exact hot q hq
                · exact rdU_e ⟨rfl, rfl⟩
        refine x_iload_n dX8_laysTraits_2 rfl rfl ?_
        refine x_aload_n dX8_laysTraits_3 rfl rfl ?_
        refine g_callI (vs := [_]) (d' := d - 1) rfl (s_X8_ops (by omega) hT (by first | exact hw | exact mciI (by omega) hw | exact mciI (by omega) (mciI (by omega) hw) | exact mciI (by omega) (mciI (by omega) (mciI (by omega) hw)) | exact mciI (by omega) (mciI (by omega) (mciI (by omega) (mciI (by omega) hw))) | exact mciC (by omega) hw)) dX8_laysTraits_4 kX8_84 (by omega) (by decide) rfl (Nat.le_of_ble_eq_true rfl) (rcv_o (by first | assumption | exact hT.2.1) rfl) (fun x4 M4 h4 => ?_)
        obtain ⟨e4, f4⟩ := h4
        have f4' := f4.symm
        subst f4'
        subst e4
        try simp (disch := omega) only [rdI_e, rdI_n, rdC_i, rdC_o, rdW, rdR, rdU_e, rdU_n, rdLW, Int.add_zero, hw, rdLL]
        refine x_icmp_ge (tgt := 93) dX8_laysTraits_7 (by decide) (fun h7 => ?_) (fun h7 => ?_)
        · omega
        · refine x_aload_n dX8_laysTraits_10 rfl rfl ?_
          refine x_iload_n dX8_laysTraits_11 rfl rfl ?_
          refine g_callL (vs := [_, _]) (d' := d - 1) rfl (s_X8_numberOfAll (M := wL M g l) (by omega) hT hw hop hp8) dX8_laysTraits_12 kX8_361 (by omega) (by decide) rfl (Nat.le_of_ble_eq_true rfl) (rcv_o (by first | assumption | exact hT.2.1) rfl) (fun x12 M12 h12 => ?_)
          obtain ⟨e12, o12, f12⟩ := h12
          have f12' := f12.symm
          subst f12'
          subst e12
          refine x_lstore_n (L' := [some _, some _, some _, none, none]) dX8_laysTraits_15 rfl (by decide) rfl ?_
          refine x_aload_n dX8_laysTraits_16 rfl rfl ?_
          refine g_getR (kI := 27) rfl dX8_laysTraits_17 fX8_48_8 (by first | assumption | exact hT.2.1) (by first | assumption | exact hT.2.1) ?_
          refine x_iload_n dX8_laysTraits_20 rfl rfl ?_
          refine x_lald dX8_laysTraits_21 (by first | assumption | exact hT.2.1) (by omega) (by omega) ?_
          try simp (disch := omega) only [rdI_e, rdI_n, rdC_i, rdC_o, rdW, rdR, rdU_e, rdU_n, rdLW, Int.add_zero, hw, rdLL]
          refine x_lload_n dX8_laysTraits_22 rfl rfl ?_
          refine x_lcmp dX8_laysTraits_23 ?_
          refine x_if_ne (tgt := 30) dX8_laysTraits_24 (by decide) (fun h24 => ?_) (fun h24 => ?_)
          · refine x_aload_n dX8_laysTraits_30 rfl rfl ?_
            refine g_getR (kI := 27) rfl dX8_laysTraits_31 fX8_48_8 (by first | assumption | exact hT.2.1) (by first | assumption | exact hT.2.1) ?_
            refine x_iload_n dX8_laysTraits_34 rfl rfl ?_
            refine x_lload_n dX8_laysTraits_35 rfl rfl ?_
            refine x_last (by omega) dX8_laysTraits_36 (by first | assumption | exact hT.2.1) (by omega) (by omega) ?_
            refine x_aload_n dX8_laysTraits_37 rfl rfl ?_
            refine g_getR (kI := 26) rfl dX8_laysTraits_38 fX8_45_8 (by first | assumption | exact hT.2.1) (by first | assumption | exact hT.2.1) ?_
            refine x_iload_n dX8_laysTraits_41 rfl rfl ?_
            refine x_iconst dX8_laysTraits_42 rfl ?_
            refine x_iast (by omega) dX8_laysTraits_43 (by first | assumption | exact hT.2.1) (by omega) (by omega) ?_
            refine x_iconst dX8_laysTraits_44 rfl ?_
            refine x_istore (L' := [some _, some _, some _, none, some _]) dX8_laysTraits_45 (by decide) rfl ?_
            refine inner _ 0 (up g (m + 10) p 0) rfl (by omega) (by omega) (fun a' k' q1 q2 => rdU_n (by omega)) ?_ (fun q hq => rdU_n (by omega)) (rdU_e ⟨rfl, rfl⟩)
            unfold sk01 at hsk ⊢
            rw [rdU_n (by omega)]
            exact hsk
          · refine x_goto (tgt := 87) dX8_laysTraits_27 (by decide) ?_
            refine x_fgt (L' := [some (dR m), some (dI p), none, none, none]) (by simp [subL]) (cont g l hf hl hK hsk fun q q0 q1 => ?_)
            by_cases e : q = p
            · subst e
              rcases hK q hp8.1 hp8.2 with y | ⟨v', y1, y2, y3⟩
              · have := jlcmp_0.mp h24
                omega
              · obtain ⟨i1, i2, i3⟩ := hashV_inj hop y1 ((jlcmp_0.mp h24).symm.trans y2)
                rw [y3]
                exact (traV_op i1 i2 i3).symm
            · exact hdn q q0 (by omega)
      · refine x_iload_n dX8_laysTraits_2 rfl rfl ?_
        refine x_aload_n dX8_laysTraits_3 rfl rfl ?_
        refine g_callI (vs := [_]) (d' := d - 1) rfl (s_X8_ops (by omega) hT (by first | exact hw | exact mciI (by omega) hw | exact mciI (by omega) (mciI (by omega) hw) | exact mciI (by omega) (mciI (by omega) (mciI (by omega) hw)) | exact mciI (by omega) (mciI (by omega) (mciI (by omega) (mciI (by omega) hw))) | exact mciC (by omega) hw)) dX8_laysTraits_4 kX8_84 (by omega) (by decide) rfl (Nat.le_of_ble_eq_true rfl) (rcv_o (by first | assumption | exact hT.2.1) rfl) (fun x4 M4 h4 => ?_)
        obtain ⟨e4, f4⟩ := h4
        have f4' := f4.symm
        subst f4'
        subst e4
        try simp (disch := omega) only [rdI_e, rdI_n, rdC_i, rdC_o, rdW, rdR, rdU_e, rdU_n, rdLW, Int.add_zero, hw, rdLL]
        refine x_icmp_ge (tgt := 93) dX8_laysTraits_7 (by decide) (fun h7 => ?_) (fun h7 => ?_)
        · refine x_vreturn rfl dX8_laysTraits_93 ?_
          exact hQ _ _ ⟨rfl, g, l, rfl, hf, hl, hK, fun q q0 q1 => hdn q q0 (by omega), hsk⟩
        · omega
  refine x_iconst dX8_laysTraits_0 rfl ?_
  refine x_istore_n (L' := [some _, some _, none, none, none]) dX8_laysTraits_1 rfl (by decide) rfl ?_
  exact loop _ 0 (mci M) (mcl M) rfl (by omega) (by omega) TG.rfl (fun _ _ _ => rfl) hK hsk fun q q0 q1 => by omega
theorem s_X8_usesOf (hd : 10 ≤ d) (hT : TwS (msh M) (mcr M) m) (hw : mci M (m + 1) = v) (hv : okB v) : CS G d mX8_usesOf [dR m, dI p] M (postI fun x M1 => x = usesV v p ∧ (0 ≤ x ∧ x ≤ 10) ∧ M1 = M) := by
  have hT_ := hT; obtain ⟨p0, p1, ⟨c1, c2, c3, c4, c5, c6, c7, c8, c9, c10, c11, c12, c13, c14, c15⟩, ⟨t1, t2, t3, t4, t5, t6, t7, t8, t9, t10, t11, t12, t13, t14, t15⟩⟩ := hT_
  have hr := hv.2.2.2.1
  refine CS.mkQ (by decide) (Nat.le_of_ble_eq_true rfl) fun Q hQ => ?_
  have loop : ∀ (t : Nat) (k x : Int), (v 3 - k).toNat = t → (0 ≤ k) → (k ≤ v 3) → (x = usesR v p k.toNat) → (0 ≤ x) → (x ≤ k) → WP G d mX8_usesOf 4 [some (dR m), some (dI p), some (dI x), some (dI k)] [] (M) Q := by
    intro t
    induction t using Nat.strongRecOn with
    | _ t ih =>
      intro k x ht h0 h1 hx hx0 hx1
      have hu : usesR v p (k + 1).toNat = usesR v p k.toNat + (if v (12 + k) = p then 1 else 0) := by
        rw [show (k + 1).toNat = k.toNat + 1 by omega]
        show usesR v p k.toNat + (if v (12 + (k.toNat : Int)) = p then 1 else 0) = _
        rw [show ((k.toNat : Nat) : Int) = k by omega]
      refine x_iload_n dX8_usesOf_4 rfl rfl ?_
      refine x_aload_n dX8_usesOf_5 rfl rfl ?_
      refine g_getR (kI := 1) rfl dX8_usesOf_6 fX8_13_8 (by first | assumption | exact hT.2.1) (by first | assumption | exact hT.2.1) ?_
      refine x_iconst dX8_usesOf_9 rfl ?_
      refine x_iald dX8_usesOf_10 (by first | assumption | exact hT.2.1) (by omega) (by omega) ?_
      try simp (disch := omega) only [rdI_e, rdI_n, rdC_i, rdC_o, rdW, rdR, rdU_e, rdU_n, rdLW, Int.add_zero, hw]
      refine x_icmp_ge (tgt := 41) dX8_usesOf_11 (by decide) (fun h11 => ?_) (fun h11 => ?_)
      · refine x_iload_n dX8_usesOf_41 rfl rfl ?_
        refine x_ireturn rfl dX8_usesOf_42 ?_
        refine hQ _ _ ⟨_, rfl, ?_, ⟨by omega, by omega⟩, rfl⟩
        unfold usesV
        rw [hx, show k = v 3 by omega]
      · refine x_iload_n dX8_usesOf_14 rfl rfl ?_
        refine x_aload_n dX8_usesOf_15 rfl rfl ?_
        refine g_getR (kI := 1) rfl dX8_usesOf_16 fX8_13_8 (by first | assumption | exact hT.2.1) (by first | assumption | exact hT.2.1) ?_
        refine x_bipush dX8_usesOf_19 rfl ?_
        refine x_iload_n dX8_usesOf_21 rfl rfl ?_
        first | refine x_iaddN dX8_usesOf_22 (by unfold i32; omega) ?_ | refine x_iadd dX8_usesOf_22 ?_
        refine x_iald dX8_usesOf_23 (by first | assumption | exact hT.2.1) (by omega) (by omega) ?_
        try simp (disch := omega) only [rdI_e, rdI_n, rdC_i, rdC_o, rdW, rdR, rdU_e, rdU_n, rdLW, Int.add_zero, hw]
        refine x_iload_n dX8_usesOf_24 rfl rfl ?_
        refine x_icmp_ne (tgt := 32) dX8_usesOf_25 (by decide) (fun h25 => ?_) (fun h25 => ?_)
        · refine x_iconst dX8_usesOf_32 rfl ?_
          first | refine x_iaddN dX8_usesOf_33 (by unfold i32; omega) ?_ | refine x_iadd dX8_usesOf_33 ?_
          refine x_istore_n (L' := [some _, some _, some _, some _]) dX8_usesOf_34 rfl (by decide) rfl ?_
          first | refine x_iincN (L' := [some _, some _, some _, some _]) dX8_usesOf_35 rfl (by decide) (by unfold i32; omega) rfl ?_ | refine x_iinc (L' := [some _, some _, some _, some _]) dX8_usesOf_35 rfl (by decide) rfl ?_
          refine x_goto (tgt := 4) dX8_usesOf_38 (by decide) ?_
          first
          | (rw [if_neg (by omega)] at hu; exact ih _ (by omega) (k + 1) _ rfl (by omega) (by omega) (by omega) (by omega) (by omega))
          | (rw [if_pos (by omega)] at hu; exact ih _ (by omega) (k + 1) _ rfl (by omega) (by omega) (by omega) (by omega) (by omega))
        · refine x_iconst dX8_usesOf_28 rfl ?_
          refine x_goto (tgt := 33) dX8_usesOf_29 (by decide) ?_
          first | refine x_iaddN dX8_usesOf_33 (by unfold i32; omega) ?_ | refine x_iadd dX8_usesOf_33 ?_
          refine x_istore_n (L' := [some _, some _, some _, some _]) dX8_usesOf_34 rfl (by decide) rfl ?_
          first | refine x_iincN (L' := [some _, some _, some _, some _]) dX8_usesOf_35 rfl (by decide) (by unfold i32; omega) rfl ?_ | refine x_iinc (L' := [some _, some _, some _, some _]) dX8_usesOf_35 rfl (by decide) rfl ?_
          refine x_goto (tgt := 4) dX8_usesOf_38 (by decide) ?_
          first
          | (rw [if_neg (by omega)] at hu; exact ih _ (by omega) (k + 1) _ rfl (by omega) (by omega) (by omega) (by omega) (by omega))
          | (rw [if_pos (by omega)] at hu; exact ih _ (by omega) (k + 1) _ rfl (by omega) (by omega) (by omega) (by omega) (by omega))
  refine x_iconst dX8_usesOf_0 rfl ?_
  refine x_istore_n (L' := [some _, some _, some _, none]) dX8_usesOf_1 rfl (by decide) rfl ?_
  refine x_iconst dX8_usesOf_2 rfl ?_
  refine x_istore_n (L' := [some _, some _, some _, some _]) dX8_usesOf_3 rfl (by decide) rfl ?_
  exact loop _ 0 0 rfl (by omega) (by omega) rfl (by omega) (by omega)
theorem s_X8_isSensitive (hd : 10 ≤ d) (hT : TwS (msh M) (mcr M) m) (hp : 0 ≤ p ∧ p < 8) (ht : mci M (m + 10) p = traV v p) : CS G d mX8_isSensitive [dR m, dI p] M (pur M (vP (trtV v p 0 = 1 ∨ trtV v p 1 = 1 ∨ trtV v p 2 = 1))) := by
  have hT_ := hT; obtain ⟨p0, p1, ⟨c1, c2, c3, c4, c5, c6, c7, c8, c9, c10, c11, c12, c13, c14, c15⟩, ⟨t1, t2, t3, t4, t5, t6, t7, t8, t9, t10, t11, t12, t13, t14, t15⟩⟩ := hT_
  have hb := (tra_b v p).2.2.2.2
  have a0 : trtV v p 0 = 0 ∨ trtV v p 0 = 1 := vP_r _
  have a1 : trtV v p 1 = 0 ∨ trtV v p 1 = 1 := vP_r _
  have a2 : trtV v p 2 = 0 ∨ trtV v p 2 = 1 := vP_r _
  refine CS.mkQ (by decide) (Nat.le_of_ble_eq_true rfl) fun Q hQ => ?_
  refine x_aload_n dX8_isSensitive_0 rfl rfl ?_
  refine g_getR (kI := 26) rfl dX8_isSensitive_1 fX8_45_8 (by first | assumption | exact hT.2.1) (by first | assumption | exact hT.2.1) ?_
  refine x_iload_n dX8_isSensitive_4 rfl rfl ?_
  refine x_iald dX8_isSensitive_5 (by first | assumption | exact hT.2.1) (by omega) (by omega) ?_
  try simp (disch := omega) only [rdI_e, rdI_n, rdC_i, rdC_o, rdW, rdR, rdU_e, rdU_n, rdLW, Int.add_zero, ht]
  refine x_bipush dX8_isSensitive_6 rfl ?_
  refine x_iand dX8_isSensitive_8 ?_
  rw [jand_7b]
  refine x_if_eq (tgt := 16) dX8_isSensitive_9 (by decide) (fun h9 => ?_) (fun h9 => ?_)
  · refine x_iconst dX8_isSensitive_16 rfl ?_
    refine x_zreturn (by first | exact Or.inl rfl | exact Or.inr rfl | exact vB_r _ | exact vP_r _ | assumption | omega) rfl dX8_isSensitive_17 ?_
    exact hQ _ _ ⟨_, rfl, (by first | rfl | omega | exact (vP_t (by omega)).symm | exact (vP_f (by omega)).symm), rfl⟩
  · refine x_iconst dX8_isSensitive_12 rfl ?_
    refine x_goto (tgt := 17) dX8_isSensitive_13 (by decide) ?_
    refine x_zreturn (by first | exact Or.inl rfl | exact Or.inr rfl | exact vB_r _ | exact vP_r _ | assumption | omega) rfl dX8_isSensitive_17 ?_
    exact hQ _ _ ⟨_, rfl, (by first | rfl | omega | exact (vP_t (by omega)).symm | exact (vP_f (by omega)).symm), rfl⟩
theorem s_X8_factOf {cd : Int} (hd : 12 ≤ d) (hT : TwS (msh M) (mcr M) m) (hw : mci M (m + 1) = v) (hv : okB v) (hp : 0 ≤ p ∧ p < v 0) (hTr : TrOk (mci M) m v) (hc : 0 ≤ cd ∧ cd ≤ 10) : CS G d mX8_factOf [dR m, dI cd, dI n, dI p] M (pur M (if cd ≤ 9 then factV v p cd else n)) := by
  have hT_ := hT; obtain ⟨p0, p1, ⟨c1, c2, c3, c4, c5, c6, c7, c8, c9, c10, c11, c12, c13, c14, c15⟩, ⟨t1, t2, t3, t4, t5, t6, t7, t8, t9, t10, t11, t12, t13, t14, t15⟩⟩ := hT_
  have hv8 := hv.1
  have ht : mci M (m + 10) p = traV v p := hTr p hp.1 hp.2
  have hb := tra_b v p
  refine CS.mkQ (by decide) (Nat.le_of_ble_eq_true rfl) fun Q hQ => ?_
  refine x_iload_n dX8_factOf_0 rfl rfl ?_
  rcases (show cd = 0 ∨ cd = 1 ∨ cd = 2 ∨ cd = 3 ∨ cd = 4 ∨ cd = 5 ∨ cd = 6 ∨ cd = 7 ∨ cd = 8 ∨ cd = 9 ∨ (cd < 0 ∨ 9 < cd) by omega) with hs1 | hs1 | hs1 | hs1 | hs1 | hs1 | hs1 | hs1 | hs1 | hs1 | hs1
  · refine x_tab_in (tgt := 56) (off := 55) dX8_factOf_1 (by omega) (by omega) (by rw [hs1]; rfl) (by decide) ?_
    refine x_iload_n dX8_factOf_56 rfl rfl ?_
    refine x_ireturn rfl dX8_factOf_57 ?_
    refine hQ _ _ ⟨_, rfl, ?_, rfl⟩
    first
    | (subst hs1
       rw [if_pos (by decide)]
       first
       | rfl
       | exact congrArg v (by omega)
       | exact e109
       | exact (vP_t h132).symm
       | exact (vP_f h132).symm)
    | rw [if_neg (by omega)]
  · refine x_tab_in (tgt := 58) (off := 57) dX8_factOf_1 (by omega) (by omega) (by rw [hs1]; rfl) (by decide) ?_
    refine x_aload_n dX8_factOf_58 rfl rfl ?_
    refine x_iload_n dX8_factOf_59 rfl rfl ?_
    refine x_iconst dX8_factOf_60 rfl ?_
    refine g_callI (vs := [_, _, _]) (d' := d - 1) rfl (s_X8_of (by omega) hT hw (by omega) (by omega)) dX8_factOf_61 kX8_78 (by omega) (by decide) rfl (Nat.le_of_ble_eq_true rfl) (rcv_o (by first | assumption | exact hT.2.1) rfl) (fun x61 M61 h61 => ?_)
    obtain ⟨e61, f61⟩ := h61
    have f61' := f61.symm
    subst f61'
    subst e61
    try simp (disch := omega) only [rdI_e, rdI_n, rdC_i, rdC_o, rdW, rdR, rdU_e, rdU_n, rdLW, Int.add_zero, ht]
    refine x_ireturn rfl dX8_factOf_64 ?_
    refine hQ _ _ ⟨_, rfl, ?_, rfl⟩
    first
    | (subst hs1
       rw [if_pos (by decide)]
       first
       | rfl
       | exact congrArg v (by omega)
       | exact e109
       | exact (vP_t h132).symm
       | exact (vP_f h132).symm)
    | rw [if_neg (by omega)]
  · refine x_tab_in (tgt := 65) (off := 64) dX8_factOf_1 (by omega) (by omega) (by rw [hs1]; rfl) (by decide) ?_
    refine x_aload_n dX8_factOf_65 rfl rfl ?_
    refine g_getR (kI := 26) rfl dX8_factOf_66 fX8_45_8 (by first | assumption | exact hT.2.1) (by first | assumption | exact hT.2.1) ?_
    refine x_iload_n dX8_factOf_69 rfl rfl ?_
    refine x_iald dX8_factOf_70 (by first | assumption | exact hT.2.1) (by omega) (by omega) ?_
    try simp (disch := omega) only [rdI_e, rdI_n, rdC_i, rdC_o, rdW, rdR, rdU_e, rdU_n, rdLW, Int.add_zero, ht]
    refine x_iconst dX8_factOf_71 rfl ?_
    refine x_iand dX8_factOf_72 ?_
    rw [jand_1b, hb.1]
    refine x_ireturn rfl dX8_factOf_73 ?_
    refine hQ _ _ ⟨_, rfl, ?_, rfl⟩
    first
    | (subst hs1
       rw [if_pos (by decide)]
       first
       | rfl
       | exact congrArg v (by omega)
       | exact e109
       | exact (vP_t h132).symm
       | exact (vP_f h132).symm)
    | rw [if_neg (by omega)]
  · refine x_tab_in (tgt := 74) (off := 73) dX8_factOf_1 (by omega) (by omega) (by rw [hs1]; rfl) (by decide) ?_
    refine x_aload_n dX8_factOf_74 rfl rfl ?_
    refine g_getR (kI := 26) rfl dX8_factOf_75 fX8_45_8 (by first | assumption | exact hT.2.1) (by first | assumption | exact hT.2.1) ?_
    refine x_iload_n dX8_factOf_78 rfl rfl ?_
    refine x_iald dX8_factOf_79 (by first | assumption | exact hT.2.1) (by omega) (by omega) ?_
    try simp (disch := omega) only [rdI_e, rdI_n, rdC_i, rdC_o, rdW, rdR, rdU_e, rdU_n, rdLW, Int.add_zero, ht]
    refine x_iconst dX8_factOf_80 rfl ?_
    refine x_ishr dX8_factOf_81 ?_
    refine x_iconst dX8_factOf_82 rfl ?_
    refine x_iand dX8_factOf_83 ?_
    rw [tra_h (k := 1) (by decide)]
    refine x_ireturn rfl dX8_factOf_84 ?_
    refine hQ _ _ ⟨_, rfl, ?_, rfl⟩
    first
    | (subst hs1
       rw [if_pos (by decide)]
       first
       | rfl
       | exact congrArg v (by omega)
       | exact e109
       | exact (vP_t h132).symm
       | exact (vP_f h132).symm)
    | rw [if_neg (by omega)]
  · refine x_tab_in (tgt := 85) (off := 84) dX8_factOf_1 (by omega) (by omega) (by rw [hs1]; rfl) (by decide) ?_
    refine x_aload_n dX8_factOf_85 rfl rfl ?_
    refine g_getR (kI := 26) rfl dX8_factOf_86 fX8_45_8 (by first | assumption | exact hT.2.1) (by first | assumption | exact hT.2.1) ?_
    refine x_iload_n dX8_factOf_89 rfl rfl ?_
    refine x_iald dX8_factOf_90 (by first | assumption | exact hT.2.1) (by omega) (by omega) ?_
    try simp (disch := omega) only [rdI_e, rdI_n, rdC_i, rdC_o, rdW, rdR, rdU_e, rdU_n, rdLW, Int.add_zero, ht]
    refine x_iconst dX8_factOf_91 rfl ?_
    refine x_ishr dX8_factOf_92 ?_
    refine x_iconst dX8_factOf_93 rfl ?_
    refine x_iand dX8_factOf_94 ?_
    rw [tra_h (k := 2) (by decide)]
    refine x_ireturn rfl dX8_factOf_95 ?_
    refine hQ _ _ ⟨_, rfl, ?_, rfl⟩
    first
    | (subst hs1
       rw [if_pos (by decide)]
       first
       | rfl
       | exact congrArg v (by omega)
       | exact e109
       | exact (vP_t h132).symm
       | exact (vP_f h132).symm)
    | rw [if_neg (by omega)]
  · refine x_tab_in (tgt := 96) (off := 95) dX8_factOf_1 (by omega) (by omega) (by rw [hs1]; rfl) (by decide) ?_
    refine x_aload_n dX8_factOf_96 rfl rfl ?_
    refine g_getR (kI := 26) rfl dX8_factOf_97 fX8_45_8 (by first | assumption | exact hT.2.1) (by first | assumption | exact hT.2.1) ?_
    refine x_iload_n dX8_factOf_100 rfl rfl ?_
    refine x_iald dX8_factOf_101 (by first | assumption | exact hT.2.1) (by omega) (by omega) ?_
    try simp (disch := omega) only [rdI_e, rdI_n, rdC_i, rdC_o, rdW, rdR, rdU_e, rdU_n, rdLW, Int.add_zero, ht]
    refine x_iconst dX8_factOf_102 rfl ?_
    refine x_ishr dX8_factOf_103 ?_
    refine x_iconst dX8_factOf_104 rfl ?_
    refine x_iand dX8_factOf_105 ?_
    rw [tra_h (k := 3) (by decide)]
    refine x_ireturn rfl dX8_factOf_106 ?_
    refine hQ _ _ ⟨_, rfl, ?_, rfl⟩
    first
    | (subst hs1
       rw [if_pos (by decide)]
       first
       | rfl
       | exact congrArg v (by omega)
       | exact e109
       | exact (vP_t h132).symm
       | exact (vP_f h132).symm)
    | rw [if_neg (by omega)]
  · refine x_tab_in (tgt := 107) (off := 106) dX8_factOf_1 (by omega) (by omega) (by rw [hs1]; rfl) (by decide) ?_
    refine x_aload_n dX8_factOf_107 rfl rfl ?_
    refine x_iload_n dX8_factOf_108 rfl rfl ?_
    refine g_callI (vs := [_, _]) (d' := d - 1) rfl (s_X8_usesOf (by omega) hT hw hv) dX8_factOf_109 kX8_368 (by omega) (by decide) rfl (Nat.le_of_ble_eq_true rfl) (rcv_o (by first | assumption | exact hT.2.1) rfl) (fun x109 M109 h109 => ?_)
    obtain ⟨e109, r109, f109⟩ := h109
    have f109' := f109.symm
    subst f109'
    refine x_ireturn rfl dX8_factOf_112 ?_
    refine hQ _ _ ⟨_, rfl, ?_, rfl⟩
    first
    | (subst hs1
       rw [if_pos (by decide)]
       first
       | rfl
       | exact congrArg v (by omega)
       | exact e109
       | exact (vP_t h132).symm
       | exact (vP_f h132).symm)
    | rw [if_neg (by omega)]
  · refine x_tab_in (tgt := 113) (off := 112) dX8_factOf_1 (by omega) (by omega) (by rw [hs1]; rfl) (by decide) ?_
    refine x_aload_n dX8_factOf_113 rfl rfl ?_
    refine x_iload_n dX8_factOf_114 rfl rfl ?_
    refine x_iconst dX8_factOf_115 rfl ?_
    refine g_callI (vs := [_, _, _]) (d' := d - 1) rfl (s_X8_of (by omega) hT hw (by omega) (by omega)) dX8_factOf_116 kX8_78 (by omega) (by decide) rfl (Nat.le_of_ble_eq_true rfl) (rcv_o (by first | assumption | exact hT.2.1) rfl) (fun x116 M116 h116 => ?_)
    obtain ⟨e116, f116⟩ := h116
    have f116' := f116.symm
    subst f116'
    subst e116
    try simp (disch := omega) only [rdI_e, rdI_n, rdC_i, rdC_o, rdW, rdR, rdU_e, rdU_n, rdLW, Int.add_zero, ht]
    refine x_ireturn rfl dX8_factOf_119 ?_
    refine hQ _ _ ⟨_, rfl, ?_, rfl⟩
    first
    | (subst hs1
       rw [if_pos (by decide)]
       first
       | rfl
       | exact congrArg v (by omega)
       | exact e109
       | exact (vP_t h132).symm
       | exact (vP_f h132).symm)
    | rw [if_neg (by omega)]
  · refine x_tab_in (tgt := 120) (off := 119) dX8_factOf_1 (by omega) (by omega) (by rw [hs1]; rfl) (by decide) ?_
    refine x_aload_n dX8_factOf_120 rfl rfl ?_
    refine x_iload_n dX8_factOf_121 rfl rfl ?_
    refine x_iconst dX8_factOf_122 rfl ?_
    refine g_callI (vs := [_, _, _]) (d' := d - 1) rfl (s_X8_of (by omega) hT hw (by omega) (by omega)) dX8_factOf_123 kX8_78 (by omega) (by decide) rfl (Nat.le_of_ble_eq_true rfl) (rcv_o (by first | assumption | exact hT.2.1) rfl) (fun x123 M123 h123 => ?_)
    obtain ⟨e123, f123⟩ := h123
    have f123' := f123.symm
    subst f123'
    subst e123
    try simp (disch := omega) only [rdI_e, rdI_n, rdC_i, rdC_o, rdW, rdR, rdU_e, rdU_n, rdLW, Int.add_zero, ht]
    refine x_ireturn rfl dX8_factOf_126 ?_
    refine hQ _ _ ⟨_, rfl, ?_, rfl⟩
    first
    | (subst hs1
       rw [if_pos (by decide)]
       first
       | rfl
       | exact congrArg v (by omega)
       | exact e109
       | exact (vP_t h132).symm
       | exact (vP_f h132).symm)
    | rw [if_neg (by omega)]
  · refine x_tab_in (tgt := 127) (off := 126) dX8_factOf_1 (by omega) (by omega) (by rw [hs1]; rfl) (by decide) ?_
    refine x_aload_n dX8_factOf_127 rfl rfl ?_
    refine x_iload_n dX8_factOf_128 rfl rfl ?_
    refine g_callI (vs := [_, _]) (d' := d - 1) rfl (s_X8_isSensitive (v := v) (by omega) hT (by omega) ht) dX8_factOf_129 kX8_371 (by omega) (by decide) rfl (Nat.le_of_ble_eq_true rfl) (rcv_o (by first | assumption | exact hT.2.1) rfl) (fun x129 M129 h129 => ?_)
    obtain ⟨e129, f129⟩ := h129
    have f129' := f129.symm
    subst f129'
    subst e129
    try simp (disch := omega) only [rdI_e, rdI_n, rdC_i, rdC_o, rdW, rdR, rdU_e, rdU_n, rdLW, Int.add_zero, ht]
    refine x_if_eq (tgt := 139) dX8_factOf_132 (by decide) (fun h132 => ?_) (fun h132 => ?_)
    · try simp only [vP_0, vP_1, vP_n0, vP_n1, Classical.not_not] at h132
      refine x_iconst dX8_factOf_139 rfl ?_
      refine x_ireturn rfl dX8_factOf_140 ?_
      refine hQ _ _ ⟨_, rfl, ?_, rfl⟩
      first
      | (subst hs1
         rw [if_pos (by decide)]
         first
         | rfl
         | exact congrArg v (by omega)
         | exact e109
         | exact (vP_t h132).symm
         | exact (vP_f h132).symm)
      | rw [if_neg (by omega)]
    · try simp only [vP_0, vP_1, vP_n0, vP_n1, Classical.not_not] at h132
      refine x_iconst dX8_factOf_135 rfl ?_
      refine x_goto (tgt := 140) dX8_factOf_136 (by decide) ?_
      refine x_ireturn rfl dX8_factOf_140 ?_
      refine hQ _ _ ⟨_, rfl, ?_, rfl⟩
      first
      | (subst hs1
         rw [if_pos (by decide)]
         first
         | rfl
         | exact congrArg v (by omega)
         | exact e109
         | exact (vP_t h132).symm
         | exact (vP_f h132).symm)
      | rw [if_neg (by omega)]
  · refine x_tab_out (tgt := 141) dX8_factOf_1 hs1 (by decide) ?_
    refine x_iload_n dX8_factOf_141 rfl rfl ?_
    refine x_ireturn rfl dX8_factOf_142 ?_
    refine hQ _ _ ⟨_, rfl, ?_, rfl⟩
    first
    | (subst hs1
       rw [if_pos (by decide)]
       first
       | rfl
       | exact congrArg v (by omega)
       | exact e109
       | exact (vP_t h132).symm
       | exact (vP_f h132).symm)
    | rw [if_neg (by omega)]
end X8

