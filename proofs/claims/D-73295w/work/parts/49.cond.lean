/-! CONDITIONS, lines of the law -/
abbrev Sh : Type := Int → Option (Nat × Int)
abbrev Ci : Type := Int → Int → Int
abbrev Cr : Type := Int → Int → Option Int
abbrev Pf : Type := (Int → Int) → Prop
def sumP (ci : Ci) (a : Int) (fc : Int → Int) : Nat → Int
  | 0 => ci a 1
  | k + 1 => sumP ci a fc k + ci (a + 1) k * fc k
abbrev sumL (ci : Ci) (a : Int) (fc : Int → Int) : Int := sumP ci a fc 7
def SumD (sh : Sh) (ci : Ci) (cr : Cr) (B T a : Int) : Prop := (B ≤ a ∧ a + 1 < T) ∧ sh a = some (11, 0) ∧ sh (a + 1) = some (100, 7) ∧ cr a 0 = some (a + 1) ∧ (0 ≤ ci a 1 ∧ ci a 1 ≤ 399600) ∧ ∀ k, 0 ≤ k → k < 7 → 0 ≤ ci (a + 1) k ∧ ci (a + 1) k ≤ 400
def LeafD (sh : Sh) (ci : Ci) (cr : Cr) (B T c : Int) (P : Pf) : Prop :=
  (B ≤ c ∧ c < T) ∧ ((sh c = some (10, 0) ∧ (7 ≤ ci c 0 ∧ ci c 0 ≤ 9) ∧ P = fun fc => fc (ci c 0) ≠ 0) ∨
  (sh c = some (12, 0) ∧ ∃ a b, cr c 0 = some a ∧ cr c 1 = some b ∧ SumD sh ci cr B T a ∧ SumD sh ci cr B T b ∧ P = fun fc => sumL ci a fc < sumL ci b fc))
/-- one of a row and those behind it -/
def comb (al : Int) (P Q : Pf) : Pf := fun fc => if al = 1 then P fc ∧ Q fc else P fc ∨ Q fc
def ChN (sh : Sh) (ci : Ci) (cr : Cr) (B T al c o : Int) : Prop := (B ≤ c ∧ c < T) ∧ sh c = some (9, 0) ∧ ci c 1 = al ∧ cr c 0 = some o
def ChD (sh : Sh) (ci : Ci) (cr : Cr) (B T : Int) (K : Int → Pf → Prop) (al : Int) : Nat → Int → Pf → Prop
  | 0 => fun c P => ∃ o, ChN sh ci cr B T al c o ∧ cr c 2 = none ∧ K o P
  | m + 1 => fun c P => ∃ o c2 P1 Q1, ChN sh ci cr B T al c o ∧ cr c 2 = some c2 ∧ K o P1 ∧ ChD sh ci cr B T K al m c2 Q1 ∧ P = comb al P1 Q1
def CD (sh : Sh) (ci : Ci) (cr : Cr) (B T : Int) : Nat → Int → Pf → Prop
  | 0 => LeafD sh ci cr B T
  | n + 1 => fun c P => CD sh ci cr B T n c P ∨ (∃ o R, (B ≤ c ∧ c < T) ∧ sh c = some (13, 0) ∧ cr c 0 = some o ∧ CD sh ci cr B T n o R ∧ P = fun fc => ¬ R fc) ∨ (∃ al m, (al = 0 ∨ al = 1) ∧ ChD sh ci cr B T (CD sh ci cr B T n) al m c P)
theorem CD.up {sh : Sh} {ci : Ci} {cr : Cr} {B T c : Int} {P : Pf} {n m : Nat} (h : CD sh ci cr B T n c P) (hm : n ≤ m) : CD sh ci cr B T m c P := by
  induction hm with
  | refl => exact h
  | step _ ih => exact Or.inl ih
/-- the same cells: the same condition -/
def Same (B T : Int) (sh : Sh) (ci : Ci) (cr : Cr) (sh' : Sh) (ci' : Ci) (cr' : Cr) : Prop := ∀ a, B ≤ a → a < T → sh' a = sh a ∧ (∀ k, ci' a k = ci a k) ∧ ∀ k, cr' a k = cr a k
theorem sumP_same {ci ci' : Ci} {a : Int} {fc : Int → Int} (h1 : ∀ k, ci' a k = ci a k) (h2 : ∀ k, ci' (a + 1) k = ci (a + 1) k) : ∀ n, sumP ci' a fc n = sumP ci a fc n := by
  intro n
  induction n with
  | zero => exact h1 1
  | succ n ih => unfold sumP; rw [ih, h2]
theorem SumD.same {sh sh' : Sh} {ci ci' : Ci} {cr cr' : Cr} {B T T' a : Int} (h : SumD sh ci cr B T a) (hs : Same B T sh ci cr sh' ci' cr') (hT : T ≤ T') : SumD sh' ci' cr' B T' a ∧ ∀ fc, sumL ci' a fc = sumL ci a fc := by
  obtain ⟨⟨h1, h2⟩, h3, h4, h5, h6, h7⟩ := h
  obtain ⟨s1, s2, s3⟩ := hs a h1 (by omega)
  obtain ⟨t1, t2, t3⟩ := hs (a + 1) (by omega) h2
  refine ⟨⟨⟨h1, by omega⟩, s1.trans h3, t1.trans h4, (s3 0).trans h5, by rw [s2]; exact h6, fun k a b => by rw [t2]; exact h7 k a b⟩, fun fc => sumP_same s2 t2 7⟩
theorem CD.same {sh sh' : Sh} {ci ci' : Ci} {cr cr' : Cr} {B T T' : Int} (hs : Same B T sh ci cr sh' ci' cr') (hT : T ≤ T') : ∀ (n : Nat) (c : Int) (P : Pf), CD sh ci cr B T n c P → CD sh' ci' cr' B T' n c P := by
  intro n
  induction n with
  | zero =>
    rintro c P ⟨hb, h⟩
    obtain ⟨s1, s2, s3⟩ := hs c hb.1 hb.2
    refine ⟨⟨hb.1, by omega⟩, ?_⟩
    rcases h with ⟨h1, h2, h3⟩ | ⟨h1, a, b, h2, h3, h4, h5, h6⟩
    · exact Or.inl ⟨s1.trans h1, by rw [s2]; exact h2, by rw [s2]; exact h3⟩
    · obtain ⟨a1, a2⟩ := h4.same hs hT
      obtain ⟨b1, b2⟩ := h5.same hs hT
      refine Or.inr ⟨s1.trans h1, a, b, (s3 0).trans h2, (s3 1).trans h3, a1, b1, ?_⟩
      rw [h6]
      exact funext fun fc => by rw [a2, b2]
  | succ n ih =>
    intro c P h
    rcases h with h | ⟨o, R, hb, h1, h2, h3, h4⟩ | ⟨al, m, ha, h⟩
    · exact Or.inl (ih c P h)
    · obtain ⟨s1, s2, s3⟩ := hs c hb.1 hb.2
      exact Or.inr (Or.inl ⟨o, R, ⟨hb.1, by omega⟩, s1.trans h1, (s3 0).trans h2, ih _ _ h3, h4⟩)
    · refine Or.inr (Or.inr ⟨al, m, ha, ?_⟩)
      have nd : ∀ c o, ChN sh ci cr B T al c o → ChN sh' ci' cr' B T' al c o ∧ cr' c 2 = cr c 2 := fun c o q => by
        obtain ⟨s1, s2, s3⟩ := hs _ q.1.1 q.1.2
        exact ⟨⟨⟨q.1.1, by have := q.1.2; omega⟩, s1.trans q.2.1, (s2 1).trans q.2.2.1, (s3 0).trans q.2.2.2⟩, s3 2⟩
      have go : ∀ (m : Nat) (c : Int) (P : Pf), ChD sh ci cr B T (CD sh ci cr B T n) al m c P → ChD sh' ci' cr' B T' (CD sh' ci' cr' B T' n) al m c P := by
        intro m
        induction m with
        | zero =>
          rintro c P ⟨o, h1, h2, h3⟩
          exact ⟨o, (nd c o h1).1, (nd c o h1).2.trans h2, ih _ _ h3⟩
        | succ m ihm =>
          rintro c P ⟨o, c2, P1, Q1, h1, h2, h3, h4, h5⟩
          exact ⟨o, c2, P1, Q1, (nd c o h1).1, (nd c o h1).2.trans h2, ih _ _ h3, ihm _ _ h4, h5⟩
      exact go m c P h
def FcOk (fc : Int → Int) : Prop := ∀ k, 0 ≤ k → k < 10 → 0 ≤ fc k ∧ fc k ≤ 10 ∧ (7 ≤ k → fc k ≤ 1)
theorem FcOk.r {fc : Int → Int} (h : FcOk fc) (k : Int) (a : 0 ≤ k) (b : k < 10) : 0 ≤ fc k ∧ fc k ≤ 10 := ⟨(h k a b).1, (h k a b).2.1⟩
theorem mulB {t f : Int} (h1 : 0 ≤ t ∧ t ≤ 400) (h2 : 0 ≤ f ∧ f ≤ 10) : 0 ≤ t * f ∧ t * f ≤ 4000 :=
  ⟨Int.mul_nonneg h1.1 h2.1, by have := Int.mul_le_mul h1.2 h2.2 h2.1 (by omega : (0 : Int) ≤ 400); omega⟩
theorem sumP_r {ci : Ci} {a : Int} {fc : Int → Int} (h1 : 0 ≤ ci a 1 ∧ ci a 1 ≤ 399600) (h2 : ∀ k, 0 ≤ k → k < 7 → 0 ≤ ci (a + 1) k ∧ ci (a + 1) k ≤ 400) (hf : FcOk fc) : ∀ n : Nat, n ≤ 7 → 0 ≤ sumP ci a fc n ∧ sumP ci a fc n ≤ 399600 + 4000 * n := by
  intro n
  induction n with
  | zero => intro _; exact ⟨h1.1, by have := h1.2; show ci a 1 ≤ _; omega⟩
  | succ n ih =>
    intro hn
    have := ih (by omega)
    have := mulB (h2 n (by omega) (by omega)) (hf.r n (by omega) (by omega))
    unfold sumP
    omega
section XC
variable {G : GW} {d : Nat} {M : Mem} {B T F c : Int} {P : Pf}
theorem s_X11_of {a : Int} (hd : 10 ≤ d) (h : SumD (msh M) (mci M) (mcr M) B T a) (hB : 0 ≤ B) (hF : msh M F = some (100, 10)) (hf : FcOk (mci M F)) : CS G d mX11_of [dR a, dR F] M (postI fun x M1 => x = sumL (mci M) a (mci M F) ∧ M1 = M) := by
  obtain ⟨⟨h1, h2⟩, h3, h4, h5, h6, h7⟩ := h
  have loop : ∀ (t : Nat) (k : Int), (7 - k).toNat = t → 0 ≤ k → k ≤ 7 → WP G d mX11_of 7 [some (dR a), some (dR F), some (dI (sumP (mci M) a (mci M F) k.toNat)), some (dI k)] [] M (postI fun x M1 => x = sumL (mci M) a (mci M F) ∧ M1 = M) := by
    intro t
    induction t using Nat.strongRecOn with
    | _ t ih =>
      intro k ht hk hk2
      have hr := sumP_r h6 h7 hf k.toNat (by omega)
      have hm : k < 7 → 0 ≤ mci M (a + 1) k * mci M F k ∧ mci M (a + 1) k * mci M F k ≤ 4000 := fun q => mulB (h7 k hk q) (hf.r k hk (by omega))
      have hs : sumP (mci M) a (mci M F) (k + 1).toNat = sumP (mci M) a (mci M F) k.toNat + mci M (a + 1) k * mci M F k := by
        rw [show (k + 1).toNat = k.toNat + 1 by omega]
        show sumP (mci M) a (mci M F) k.toNat + mci M (a + 1) (k.toNat : Int) * mci M F (k.toNat : Int) = _
        rw [show ((k.toNat : Nat) : Int) = k by omega]
      refine x_iload_n dX11_of_7 rfl rfl ?_
      refine x_bipush dX11_of_8 rfl ?_
      refine x_icmp_ge (tgt := 32) dX11_of_10 (by decide) (fun h10 => ?_) (fun h10 => ?_)
      · refine x_iload_n dX11_of_32 rfl rfl ?_
        refine x_ireturn rfl dX11_of_33 ?_
        refine ⟨_, rfl, ?_, rfl⟩
        rw [show k = 7 by omega]
        rfl
      · refine x_iload_n dX11_of_13 rfl rfl ?_
        refine x_aload_n dX11_of_14 rfl rfl ?_
        refine g_getR (kI := 0) rfl dX11_of_15 fX11_9_11 (by assumption) (by assumption) ?_
        refine x_iload_n dX11_of_18 rfl rfl ?_
        refine x_iald dX11_of_19 (by assumption) (by omega) (by omega) ?_
        refine x_aload_n dX11_of_20 rfl rfl ?_
        refine x_iload_n dX11_of_21 rfl rfl ?_
        refine x_iald dX11_of_22 (by assumption) (by omega) (by omega) ?_
        have hm7 := hm (by omega)
        first | refine x_imulN dX11_of_23 (by unfold i32; omega) ?_ | refine x_imul dX11_of_23 ?_
        first | refine x_iaddN dX11_of_24 (by unfold i32; omega) ?_ | refine x_iadd dX11_of_24 ?_
        refine x_istore_n (L' := [some _, some _, some _, some _]) dX11_of_25 rfl (by decide) rfl ?_
        first | refine x_iincN (L' := [some _, some _, some _, some _]) dX11_of_26 rfl (by decide) (by unfold i32; omega) rfl ?_ | refine x_iinc (L' := [some _, some _, some _, some _]) dX11_of_26 rfl (by decide) rfl ?_
        refine x_goto (tgt := 7) dX11_of_29 (by decide) ?_
        rw [← hs]
        exact ih _ (by omega) (k + 1) rfl (by omega) (by omega)
  refine CS.mk (by decide) (Nat.le_of_ble_eq_true rfl) ?_
  refine x_aload_n dX11_of_0 rfl rfl ?_
  refine g_getI (kI := 1) rfl dX11_of_1 fX11_15_11 (by assumption) ?_
  refine x_istore_n (L' := [some _, some _, some _, none]) dX11_of_4 rfl (by decide) rfl ?_
  refine x_iconst dX11_of_5 rfl ?_
  refine x_istore_n (L' := [some _, some _, some _, some _]) dX11_of_6 rfl (by decide) rfl ?_
  exact loop _ 0 rfl (by omega) (by omega)
/-- a call of 'holds' on a condition, whichever it is -/
def HoldsC (G : GW) (d : Nat) (M : Mem) (c F : Int) (P : Pf) : Prop :=
  (0 ≤ c ∧ msh M c = some (9, 0) ∧ CS G d mX9_holds [dR c, dR F] M (postI fun x M1 => x = vP (P (mci M F)) ∧ M1 = M)) ∨
  (0 ≤ c ∧ msh M c = some (10, 0) ∧ CS G d mX10_holds [dR c, dR F] M (postI fun x M1 => x = vP (P (mci M F)) ∧ M1 = M)) ∨
  (0 ≤ c ∧ msh M c = some (12, 0) ∧ CS G d mX12_holds [dR c, dR F] M (postI fun x M1 => x = vP (P (mci M F)) ∧ M1 = M)) ∨
  (0 ≤ c ∧ msh M c = some (13, 0) ∧ CS G d mX13_holds [dR c, dR F] M (postI fun x M1 => x = vP (P (mci M F)) ∧ M1 = M))
theorem g_holds {j : MI} {pc len : Nat} {L : LV} {S : List DV} {Q : Res → Mem → Prop} {ins : Instr} {d' : Nat} (h : HoldsC G d' M c F P) (l9 : LKs G ins len j.1.cls mX9_holds 2 (some RX9)) (l10 : LKs G ins len j.1.cls mX10_holds 2 (some RX10)) (l12 : LKs G ins len j.1.cls mX12_holds 2 (some RX12)) (l13 : LKs G ins len j.1.cls mX13_holds 2 (some RX13)) (hdp : d' + 1 ≤ d) (hd : decode j.2.1 pc = .ok (ins, len)) (hS0 : S.length ≤ 4) (kk : ∀ x, x = vP (P (mci M F)) → WP G d j (pc + len) L (dI x :: S) M Q) : WP G d j pc L (dR F :: dR c :: S) M Q := by
  rcases h with ⟨h0, h1, h2⟩ | ⟨h0, h1, h2⟩ | ⟨h0, h1, h2⟩ | ⟨h0, h1, h2⟩
  · exact g_callI (vs := [_, _]) rfl h2 hd l9 hdp (by decide) rfl hS0 (rcv_o h1 rfl) (fun x M1 e => by rw [e.2]; exact kk x e.1)
  · exact g_callI (vs := [_, _]) rfl h2 hd l10 hdp (by decide) rfl hS0 (rcv_o h1 rfl) (fun x M1 e => by rw [e.2]; exact kk x e.1)
  · exact g_callI (vs := [_, _]) rfl h2 hd l12 hdp (by decide) rfl hS0 (rcv_o h1 rfl) (fun x M1 e => by rw [e.2]; exact kk x e.1)
  · exact g_callI (vs := [_, _]) rfl h2 hd l13 hdp (by decide) rfl hS0 (rcv_o h1 rfl) (fun x M1 e => by rw [e.2]; exact kk x e.1)
theorem s_holds (hB : 0 ≤ B) (hF : msh M F = some (100, 10)) (hf : FcOk (mci M F)) : ∀ (n : Nat) (d : Nat) (c : Int) (P : Pf), 12 + n ≤ d → CD (msh M) (mci M) (mcr M) B T n c P → HoldsC G d M c F P := by
  intro n
  induction n with
  | zero =>
    rintro d c P hd ⟨hb, h⟩
    rcases h with ⟨h1, h2, h3⟩ | ⟨h1, a, b, h2, h3, h4, h5, h6⟩
    · refine Or.inr (Or.inl ⟨by omega, h1, ?_⟩)
      have c0 : 0 ≤ c := by omega
      subst h3
      refine CS.mk (by decide) (Nat.le_of_ble_eq_true rfl) ?_
      refine x_aload_n dX10_holds_0 rfl rfl ?_
      refine x_aload_n dX10_holds_1 rfl rfl ?_
      refine g_getI (kI := 0) rfl dX10_holds_2 fX10_7_10 (by assumption) ?_
      refine x_iald dX10_holds_5 (by assumption) (by omega) (by omega) ?_
      refine x_if_eq (tgt := 13) dX10_holds_6 (by decide) (fun h6 => ?_) (fun h6 => ?_)
      · refine x_iconst dX10_holds_13 rfl ?_
        refine x_zreturn (by first | exact Or.inl rfl | exact Or.inr rfl | exact vB_r _ | assumption | omega) rfl dX10_holds_14 ?_
        exact ⟨_, rfl, (by first | exact (vP_t h6).symm | exact (vP_f (fun q => q h6)).symm), rfl⟩
      · refine x_iconst dX10_holds_9 rfl ?_
        refine x_goto (tgt := 14) dX10_holds_10 (by decide) ?_
        refine x_zreturn (by first | exact Or.inl rfl | exact Or.inr rfl | exact vB_r _ | assumption | omega) rfl dX10_holds_14 ?_
        exact ⟨_, rfl, (by first | exact (vP_t h6).symm | exact (vP_f (fun q => q h6)).symm), rfl⟩
    · refine Or.inr (Or.inr (Or.inl ⟨by omega, h1, ?_⟩))
      have c0 : 0 ≤ c := by omega
      have a1 := h4.2.1
      have b1 := h5.2.1
      have a0 : 0 ≤ a := by have := h4.1.1; omega
      have b0 : 0 ≤ b := by have := h5.1.1; omega
      subst h6
      refine CS.mk (by decide) (Nat.le_of_ble_eq_true rfl) ?_
      refine x_aload_n dX12_holds_0 rfl rfl ?_
      refine g_getR (kI := 0) rfl dX12_holds_1 fX12_7_12 (by assumption) (by assumption) ?_
      refine x_aload_n dX12_holds_4 rfl rfl ?_
      refine g_callI (vs := [_, _]) (d' := d - 1) rfl (s_X11_of (by omega) h4 hB hF hf) dX12_holds_5 kX12_16 (by omega) (by decide) rfl (Nat.le_of_ble_eq_true rfl) (rcv_o (by assumption) rfl) (fun x5 M5 h5 => ?_)
      obtain ⟨e5, f5⟩ := h5
      have f5' := f5.symm
      subst f5'
      refine x_aload_n dX12_holds_8 rfl rfl ?_
      refine g_getR (kI := 1) rfl dX12_holds_9 fX12_13_12 (by assumption) (by assumption) ?_
      refine x_aload_n dX12_holds_12 rfl rfl ?_
      refine g_callI (vs := [_, _]) (d' := d - 1) rfl (s_X11_of (by omega) h5 hB hF hf) dX12_holds_13 kX12_16 (by omega) (by decide) rfl (Nat.le_of_ble_eq_true rfl) (rcv_o (by assumption) rfl) (fun x13 M13 h13 => ?_)
      obtain ⟨e13, f13⟩ := h13
      have f13' := f13.symm
      subst f13'
      refine x_icmp_ge (tgt := 23) dX12_holds_16 (by decide) (fun h16 => ?_) (fun h16 => ?_)
      · refine x_iconst dX12_holds_23 rfl ?_
        refine x_zreturn (by first | exact Or.inl rfl | exact Or.inr rfl | exact vB_r _ | assumption | omega) rfl dX12_holds_24 ?_
        refine ⟨_, rfl, ?_, rfl⟩
        subst e5 e13
        first
        | exact (vP_t (by omega)).symm
        | exact (vP_f (by omega)).symm
      · refine x_iconst dX12_holds_19 rfl ?_
        refine x_goto (tgt := 24) dX12_holds_20 (by decide) ?_
        refine x_zreturn (by first | exact Or.inl rfl | exact Or.inr rfl | exact vB_r _ | assumption | omega) rfl dX12_holds_24 ?_
        refine ⟨_, rfl, ?_, rfl⟩
        subst e5 e13
        first
        | exact (vP_t (by omega)).symm
        | exact (vP_f (by omega)).symm
  | succ n ih =>
    intro d c P hd h
    rcases h with h | ⟨o, R, hb, h1, h2, h3, h4⟩ | ⟨al, m, hal, h⟩
    · exact ih d c P (by omega) h
    · refine Or.inr (Or.inr (Or.inr ⟨by omega, h1, ?_⟩))
      have c0 : 0 ≤ c := by omega
      subst h4
      have hr := ih (d - 1) o R (by omega) h3
      refine CS.mk (by decide) (Nat.le_of_ble_eq_true rfl) ?_
      refine x_aload_n dX13_holds_0 rfl rfl ?_
      refine g_getR (kI := 0) rfl dX13_holds_1 fX13_7_13 (by assumption) (by assumption) ?_
      refine x_aload_n dX13_holds_4 rfl rfl ?_
      refine g_holds hr kX13_13_X9_holds kX13_13_X10_holds kX13_13_X12_holds kX13_13_X13_holds (by omega) dX13_holds_5 (Nat.le_of_ble_eq_true rfl) ?_
      intro x5 h5
      refine x_if_ne (tgt := 17) dX13_holds_10 (by decide) (fun h10 => ?_) (fun h10 => ?_)
      · refine x_iconst dX13_holds_17 rfl ?_
        refine x_zreturn (by first | exact Or.inl rfl | exact Or.inr rfl | exact vB_r _ | assumption | omega) rfl dX13_holds_18 ?_
        refine ⟨_, rfl, ?_, rfl⟩
        subst h5
        first
        | exact (vP_t (fun q => by have := vP_t q; omega)).symm
        | exact (vP_f (fun q => h10 (vP_f q))).symm
      · refine x_iconst dX13_holds_13 rfl ?_
        refine x_goto (tgt := 18) dX13_holds_14 (by decide) ?_
        refine x_zreturn (by first | exact Or.inl rfl | exact Or.inr rfl | exact vB_r _ | assumption | omega) rfl dX13_holds_18 ?_
        refine ⟨_, rfl, ?_, rfl⟩
        subst h5
        first
        | exact (vP_t (fun q => by have := vP_t q; omega)).symm
        | exact (vP_f (fun q => h10 (vP_f q))).symm
    · have hc : (B ≤ c ∧ c < T) ∧ msh M c = some (9, 0) ∧ mci M c 1 = al := by
        cases m with
        | zero => obtain ⟨o, q, -⟩ := h; exact ⟨q.1, q.2.1, q.2.2.1⟩
        | succ m => obtain ⟨o, c2, P1, Q1, q, -⟩ := h; exact ⟨q.1, q.2.1, q.2.2.1⟩
      obtain ⟨hb, h1, h2⟩ := hc
      refine Or.inl ⟨by omega, h1, ?_⟩
      have c0 : 0 ≤ c := by omega
      have tail : WP G d mX9_holds 2 [some (dR c), some (dR F), some dN] [] M (postI fun x M1 => x = al ∧ M1 = M) := by
        refine x_aload_n dX9_holds_2 rfl rfl ?_
        refine x_ifnull_n (tgt := 44) dX9_holds_3 (by decide) ?_
        refine x_aload_n dX9_holds_44 rfl rfl ?_
        refine g_getZ (kI := 1) rfl dX9_holds_45 fX9_13_9 (by assumption) ?_
        refine x_zreturn (by omega) rfl dX9_holds_48 ?_
        exact ⟨_, rfl, h2, rfl⟩
      have loop : ∀ (m : Nat) c' P', ChD (msh M) (mci M) (mcr M) B T (CD (msh M) (mci M) (mcr M) B T n) al m c' P' → WP G d mX9_holds 2 [some (dR c), some (dR F), some (dR c')] [] M (postI fun x M1 => x = vP (P' (mci M F)) ∧ M1 = M) := by
        intro m
        induction m with
        | zero =>
          rintro c' P1 ⟨o, ⟨hb', g1, g2, g3⟩, g4, g5⟩
          have c0' : 0 ≤ c' := by omega
          have hr := ih (d - 1) o P1 (by omega) g5
          refine x_aload_n dX9_holds_2 rfl rfl ?_
          refine x_ifnull_r (by omega) dX9_holds_3 ?_
          refine x_aload_n dX9_holds_6 rfl rfl ?_
          refine g_getR (kI := 0) rfl dX9_holds_7 fX9_7_9 (by assumption) (by assumption) ?_
          refine x_aload_n dX9_holds_10 rfl rfl ?_
          refine g_holds hr kX9_17_X9_holds kX9_17_X10_holds kX9_17_X12_holds kX9_17_X13_holds (by omega) dX9_holds_11 (Nat.le_of_ble_eq_true rfl) ?_
          intro x11 h11
          refine x_aload_n dX9_holds_16 rfl rfl ?_
          refine g_getZ (kI := 1) rfl dX9_holds_17 fX9_13_9 (by assumption) ?_
          refine x_icmp_eq (tgt := 36) dX9_holds_20 (by decide) (fun h20 => ?_) (fun h20 => ?_)
          · refine x_aload_n dX9_holds_36 rfl rfl ?_
            refine g_getR (kI := 2) rfl dX9_holds_37 fX9_23_9 (by assumption) (by assumption) ?_
            refine x_astore_n (L' := [some _, some _, some _]) dX9_holds_40 rfl (by decide) rfl ?_
            refine x_goto (tgt := 2) dX9_holds_41 (by decide) ?_
            refine WP.mono tail fun r M1 e => ?_
            obtain ⟨x, e1, e2, e3⟩ := e
            exact ⟨x, e1, by rw [e2, ← h2, ← h20, h11], e3⟩
          · refine x_aload_n dX9_holds_23 rfl rfl ?_
            refine g_getZ (kI := 1) rfl dX9_holds_24 fX9_13_9 (by assumption) ?_
            refine x_if_ne (tgt := 34) dX9_holds_27 (by decide) (fun h27 => ?_) (fun h27 => ?_)
            · refine x_iconst dX9_holds_34 rfl ?_
              refine x_zreturn (by first | exact Or.inl rfl | exact Or.inr rfl | exact vB_r _ | assumption | omega) rfl dX9_holds_35 ?_
              refine ⟨_, rfl, ?_, rfl⟩
              have hv := vP_r (P1 (mci M F))
              omega
            · refine x_iconst dX9_holds_30 rfl ?_
              refine x_goto (tgt := 35) dX9_holds_31 (by decide) ?_
              refine x_zreturn (by first | exact Or.inl rfl | exact Or.inr rfl | exact vB_r _ | assumption | omega) rfl dX9_holds_35 ?_
              refine ⟨_, rfl, ?_, rfl⟩
              have hv := vP_r (P1 (mci M F))
              omega
        | succ m ihm =>
          rintro c' P' ⟨o, c2, P1, Q1, ⟨hb', g1, g2, g3⟩, g4, g5, g6, rfl⟩
          have ihc := ihm _ _ g6
          have c0' : 0 ≤ c' := by omega
          have hr := ih (d - 1) o P1 (by omega) g5
          refine x_aload_n dX9_holds_2 rfl rfl ?_
          refine x_ifnull_r (by omega) dX9_holds_3 ?_
          refine x_aload_n dX9_holds_6 rfl rfl ?_
          refine g_getR (kI := 0) rfl dX9_holds_7 fX9_7_9 (by assumption) (by assumption) ?_
          refine x_aload_n dX9_holds_10 rfl rfl ?_
          refine g_holds hr kX9_17_X9_holds kX9_17_X10_holds kX9_17_X12_holds kX9_17_X13_holds (by omega) dX9_holds_11 (Nat.le_of_ble_eq_true rfl) ?_
          intro x11 h11
          refine x_aload_n dX9_holds_16 rfl rfl ?_
          refine g_getZ (kI := 1) rfl dX9_holds_17 fX9_13_9 (by assumption) ?_
          refine x_icmp_eq (tgt := 36) dX9_holds_20 (by decide) (fun h20 => ?_) (fun h20 => ?_)
          · refine x_aload_n dX9_holds_36 rfl rfl ?_
            refine g_getR (kI := 2) rfl dX9_holds_37 fX9_23_9 (by assumption) (by assumption) ?_
            refine x_astore_n (L' := [some _, some _, some _]) dX9_holds_40 rfl (by decide) rfl ?_
            refine x_goto (tgt := 2) dX9_holds_41 (by decide) ?_
            refine WP.mono ihc fun r M1 e => ?_
            obtain ⟨x, e1, e2, e3⟩ := e
            refine ⟨x, e1, ?_, e3⟩
            rw [e2]
            refine vP_c ?_
            unfold comb
            rw [h11, h2] at h20
            rcases hal with q | q
            · rw [if_neg (by omega)]
              have := vP_0.mp (h20.trans q)
              exact ⟨Or.inr, fun w => w.resolve_left this⟩
            · rw [if_pos q]
              have := vP_1.mp (h20.trans q)
              exact ⟨fun w => ⟨this, w⟩, And.right⟩
          · refine x_aload_n dX9_holds_23 rfl rfl ?_
            refine g_getZ (kI := 1) rfl dX9_holds_24 fX9_13_9 (by assumption) ?_
            refine x_if_ne (tgt := 34) dX9_holds_27 (by decide) (fun h27 => ?_) (fun h27 => ?_)
            · refine x_iconst dX9_holds_34 rfl ?_
              refine x_zreturn (by first | exact Or.inl rfl | exact Or.inr rfl | exact vB_r _ | assumption | omega) rfl dX9_holds_35 ?_
              refine ⟨_, rfl, ?_, rfl⟩
              unfold comb
              rw [h11, h2] at h20
              rw [h2] at h27
              have hv := vP_r (P1 (mci M F))
              first
              | (rw [if_neg (by omega)]
                 exact (vP_t (Or.inl (vP_1.mp (by omega)))).symm)
              | (rw [if_pos (by omega)]
                 exact (vP_f (fun w => by have := vP_t w.1; omega)).symm)
            · refine x_iconst dX9_holds_30 rfl ?_
              refine x_goto (tgt := 35) dX9_holds_31 (by decide) ?_
              refine x_zreturn (by first | exact Or.inl rfl | exact Or.inr rfl | exact vB_r _ | assumption | omega) rfl dX9_holds_35 ?_
              refine ⟨_, rfl, ?_, rfl⟩
              unfold comb
              rw [h11, h2] at h20
              rw [h2] at h27
              have hv := vP_r (P1 (mci M F))
              first
              | (rw [if_neg (by omega)]
                 exact (vP_t (Or.inl (vP_1.mp (by omega)))).symm)
              | (rw [if_pos (by omega)]
                 exact (vP_f (fun w => by have := vP_t w.1; omega)).symm)
      refine CS.mk (by decide) (Nat.le_of_ble_eq_true rfl) ?_
      refine x_aload_n dX9_holds_0 rfl rfl ?_
      refine x_astore_n (L' := [some _, some _, some _]) dX9_holds_1 rfl (by decide) rfl ?_
      exact loop m c P h
end XC

