set_option maxRecDepth 100000
/-! A PLAN IS COPIED -/
/-- a plan in the making -/
def NP (G : Gl) (H : AH) (O : Nat → Nat) (t q : Nat) (A : PA) (n1 n2 n3 n4 : Nat) (g : Nat → Int32) (sp ta wa : Int32) : Prop := PlF H O (8 * t + 1) q A.ty A.M A.tr A.ca A.dr sp ta wa ∧ TyS G H O (8 * t + 2) A.ty A.M n1 g ∧ TrS G H O (8 * t + 3) A.tr n2 (tvOf g) ∧ CaS G H O (8 * t + 4) A.ca n3 (cvOf g) ∧ DrS G H O (8 * t + 5) A.dr n4 (dvOf g)
theorem NP.ks {G : Gl} {H H' : AH} {O O' : Nat → Nat} {S : Nat → Prop} {t p n1 n2 n3 n4 : Nat} {A : PA} {g : Nat → Int32} {sp ta wa : Int32} (h : NP G H O t p A n1 n2 n3 n4 g sp ta wa) (hs : Stq G S H O H' O') (hl : ∀ a, kd H a ≠ 0 → S a → O a ≠ 0 ∧ (O a = 6 → gI H 115 a = 0) ∧ O a / 8 ≠ t) : NP G H' O' t p A n1 n2 n3 n4 g sp ta wa := by
  obtain ⟨h1, h2, h3, h4, h5⟩ := h
  have f : ∀ j, j < 8 → ∀ a, kd H a ≠ 0 → S a → O a ≠ 8 * t + j := fun j hj a ha q e => (hl a ha q).2.2 (by omega)
  exact ⟨h1.ks hs (f 1 (by decide)), h2.ks hs (fun a ha q => ⟨f 2 (by decide) a ha q, (hl a ha q).1, (hl a ha q).2.1⟩), h3.ks hs (f 3 (by decide)), h4.ks hs (fun a ha q => ⟨f 4 (by decide) a ha q, (hl a ha q).1⟩), h5.ks hs (f 5 (by decide))⟩
theorem mtk_gy {g : Nat → Int32} (hY : GY g) {i n : Nat} (hi : i < n) (hn : n < nat g 3) : mtk (nmL g) (nmF g) (nmL g n) (nmF g n) i = false := by
  refine decide_eq_false (fun q => ?_)
  refine hY.2 i n hi hn ⟨q.1.symm, fun j hj => ?_⟩
  have h1 := (hY.1 i (by omega)).2.2.1 j hj
  have e1 : nmL g n = nmL g i := q.1
  have hj2 : j < nat g (7 + 6 * n) := by
    have : nmL g n = nat g (7 + 6 * n) := rfl
    have : nmL g i = nat g (7 + 6 * i) := rfl
    omega
  have h2 := (hY.1 n hn).2.2.1 j hj2
  have e2 : nat g (4 + 6 * n + j) = nat g (4 + 6 * i + j) := q.2 j hj2
  rw [h1.1.1, h2.1.1, e2]
section
variable {G : Gl} {d : Nat} {Qr : Option AV → AH → Prop} {Qx : String → Nat → AH → Prop} {H : AH} {O : Nat → Nat} {p t : Nat} {g : Nat → Int32}
theorem NP.z {H' : AH} {O' : Nat → Nat} {q t' : Nat} {A : PA} {sp ta wa : Int32} (h : NP G H' O' t' q A 0 0 0 0 g0 sp ta wa) : NP G H' O' t' q A 0 0 0 0 g sp ta wa := by
  obtain ⟨h1, ⟨e2, ty, nm, nd, h2⟩, ⟨e3, tr, tc, tf, tu, b1, b2, b3, -, -⟩, ⟨e4, ca, rl, re, st, c1, c2, c3, -, -, -⟩, ⟨e5, dr, d1, d2, d3, -, -⟩⟩ := h
  exact ⟨h1, ⟨e2, ty, nm, nd, h2.to (fun y hy => absurd hy (by omega)) (fun y i hy => absurd hy (by omega))⟩, ⟨e3, tr, tc, tf, tu, b1, b2, b3, fun y hy => absurd hy (by omega), fun y i hy => absurd hy (by omega)⟩, ⟨e4, ca, rl, re, st, c1, c2, c3, fun y hy => absurd hy (by omega), fun y i hy => absurd hy (by omega), fun y hy => absurd hy (by omega)⟩, ⟨e5, dr, d1, d2, d3, fun y hy => absurd hy (by omega), fun y i hy => absurd hy (by omega)⟩⟩
theorem c_planCopy (hd : 9 ≤ d) (hP : IsPlan G H O t p g) (hY : GY g) (hQ : ∀ H' O' t' q, Stq G (fun _ => False) H O H' O' → 1 ≤ t' → (∀ a, kd H a ≠ 0 → O a < 8 * t') → kd H q = 0 → IsPlan G H' O' t' q g → Qr (some (vR (some q))) H') : AMet G d 168 1590 yX2_copy wX2_copy H [vR (some p)] Qr Qx := by
  obtain ⟨A, ht, hPl, ⟨eT, ty, nm, nd, hTy⟩, ⟨eR, tr, tc, tf, tu, hTr⟩, ⟨eC, ca, rl, re, st, hCa⟩, ⟨eD, dr, hDr⟩⟩ := hP
  refine AMet.of (M := mX2_copy) (maxL := 5) (by first | rfl | decide +kernel) rfl (Nat.le_of_ble_eq_true rfl) ?_
  show AW mX2_copy _ _ _ _ _ _ _ 0 [some (vR (some p)), none, none, none, none] []
  refine AW.tok O (fun t' ht' hfr => ?_)
  -- what is old is none of the new plan's
  have old : ∀ {H2 : AH} {O2 : Nat → Nat}, Stq G (fun _ => False) H O H2 O2 → ∀ j, ∀ a, kd H a ≠ 0 → O2 a = 8 * t' + j → False := fun s j a ha q => by
    have h1 := hfr a ha
    rw [s.2.1 a ha] at q
    omega
  have fF : ∀ {H2 : AH} {P : Nat → Prop}, ∀ a, kd H2 a ≠ 0 → (fun _ : Nat => False) a → P a := fun _ _ h => h.elim
  have hPs : ∀ {H2 : AH} {O2 : Nat → Nat}, Stq G (fun _ => False) H O H2 O2 → PlF H2 O2 (8 * t + 1) p A.ty A.M A.tr A.ca A.dr (g 0) (g 1) (g 2) := fun s => hPl.ks s (fun _ _ h => h.elim)
  -- an iterator in use
  have itS : ∀ {H2 H3 : AH} {O2 O3 : Nat → Nat} {S : Nat → Prop} {it L i : Nat}, ItS H2 it L i ∧ O2 it = 7 ∧ kd H it = 0 → kd H2 L ≠ 0 → Stq G S H2 O2 H3 O3 → ¬ S it → ¬ S L → ItS H3 it L i ∧ O3 it = 7 ∧ kd H it = 0 := fun hI hL s h1 h2 => ⟨hI.1.ks s.1 h1 hL h2, by rw [s.2.1 _ (by rw [hI.1.1]; decide)]; exact hI.2.1, hI.2.2⟩
  -- a step of the iterator
  have nxt : ∀ {H2 H3 : AH} {O2 : Nat → Nat} {it L i q n1 n2 n3 n4 : Nat} {B : PA}, Stq G (fun _ => False) H O H2 O2 → NP G H2 O2 t' q B n1 n2 n3 n4 g (nI 20) (nI 2) 0 → ItS H2 it L i ∧ O2 it = 7 ∧ kd H it = 0 → Ks (fun a => a = it) H2 H3 → kd H3 (gSt G 1) = 0 → Stq G (fun _ => False) H O H3 O2 ∧ NP G H3 O2 t' q B n1 n2 n3 n4 g (nI 20) (nI 2) 0 := fun s h hI hK z => ⟨s.tr2 (Stq.of hK z) (fun a ha e => by rw [e] at ha; exact ha hI.2.2), h.ks (Stq.of hK z) (fun a _ e => by rw [e, hI.2.1]; exact ⟨by decide, fun k => absurd k (by decide), by omega⟩)⟩
  have fin : ∀ (rc rs : Nat) (H2 : AH) (O2 : Nat → Nat) (q : Nat) (B : PA) (l2 l3 l4 : Option AV), kd H q = 0 → Stq G (fun _ => False) H O H2 O2 → NP G H2 O2 t' q B (nat g 3) (nat g 40) (nat g 101) (nat g 354) g (nI 20) (nI 2) 0 → AW mX2_copy G d Qr Qx rc rs H2 172 [some (vR (some p)), some (vR (some q)), l2, l3, l4] [] := by
    intro rc rs H2 O2 q B l2 l3 l4 hq s h
    obtain ⟨h1, h2, h3, h4, h5⟩ := h
    obtain ⟨⟨p1, p8, p9, p10, p11, p12, p13, p14, p15⟩, pO⟩ := hPs s
    obtain ⟨⟨q1, q8, q9, q10, q11, q12, q13, q14, q15⟩, qO⟩ := h1
    have hpq : ¬ p = q := fun e => by rw [← e, hPl.1.1] at hq; exact absurd hq (by decide)
    refine AW.st0 (fun z2 => ?_)
    refine r_aload_n (i := 1) dX2_copy_172 rfl rfl ?_
    refine r_aload_n (i := 0) dX2_copy_173 rfl rfl ?_
    refine r_getI dX2_copy_174 fR_X2_34 (by first | assumption | (simp only [kd_sI, kd_sR, kd_sA, kd_sQ, kd_sL, kd_sD, ln_sI, ln_sR, ln_sA, ln_sQ, ln_sL, ln_sD, gI_sR, gI_sA, gI_sQ, gI_sL, gI_sD, gR_sI, gR_sA, gR_sQ, gR_sL, gR_sD, gA_sI, gA_sR, gA_sQ, gA_sL, gA_sD, gQ_sI, gQ_sR, gQ_sA, gQ_sL, gQ_sD, gL_sI, gL_sR, gL_sA, gL_sQ, gL_sD]; assumption) | simp [kd_sI, kd_sR, kd_sA, kd_sQ, kd_sL, kd_sD, ln_sI, ln_sR, ln_sA, ln_sQ, ln_sL, ln_sD, gI_sR, gI_sA, gI_sQ, gI_sL, gI_sD, gR_sI, gR_sA, gR_sQ, gR_sL, gR_sD, gA_sI, gA_sR, gA_sQ, gA_sL, gA_sD, gQ_sI, gQ_sR, gQ_sA, gQ_sL, gQ_sD, gL_sI, gL_sR, gL_sA, gL_sQ, gL_sD, kd_nO, kd_nA, *]) (by first | assumption | exact gI_sIs | exact gR_sRs | with_reducible rfl | (simp only [kd_sI, kd_sR, kd_sA, kd_sQ, kd_sL, kd_sD, ln_sI, ln_sR, ln_sA, ln_sQ, ln_sL, ln_sD, gI_sR, gI_sA, gI_sQ, gI_sL, gI_sD, gR_sI, gR_sA, gR_sQ, gR_sL, gR_sD, gA_sI, gA_sR, gA_sQ, gA_sL, gA_sD, gQ_sI, gQ_sR, gQ_sA, gQ_sL, gQ_sD, gL_sI, gL_sR, gL_sA, gL_sQ, gL_sD]; first | done | assumption | with_reducible rfl) | rfl) ?_
    refine r_putI dX2_copy_177 fG_X2_34 (fun _ => by first | rfl | contradiction) (by first | assumption | (simp only [kd_sI, kd_sR, kd_sA, kd_sQ, kd_sL, kd_sD, ln_sI, ln_sR, ln_sA, ln_sQ, ln_sL, ln_sD, gI_sR, gI_sA, gI_sQ, gI_sL, gI_sD, gR_sI, gR_sA, gR_sQ, gR_sL, gR_sD, gA_sI, gA_sR, gA_sQ, gA_sL, gA_sD, gQ_sI, gQ_sR, gQ_sA, gQ_sL, gQ_sD, gL_sI, gL_sR, gL_sA, gL_sQ, gL_sD]; assumption) | simp [kd_sI, kd_sR, kd_sA, kd_sQ, kd_sL, kd_sD, ln_sI, ln_sR, ln_sA, ln_sQ, ln_sL, ln_sD, gI_sR, gI_sA, gI_sQ, gI_sL, gI_sD, gR_sI, gR_sA, gR_sQ, gR_sL, gR_sD, gA_sI, gA_sR, gA_sQ, gA_sL, gA_sD, gQ_sI, gQ_sR, gQ_sA, gQ_sL, gQ_sD, gL_sI, gL_sR, gL_sA, gL_sQ, gL_sD, kd_nO, kd_nA, *]) (by first | rfl | assumption) (by first | rfl | assumption) ?_
    refine AW.name (fun H3 hH3 => ?_)
    have e14 : gI H3 14 p = g 1 := by rw [hH3, gI_sIn (by decide)]; exact p14
    have k3 : kd H3 p = 2 := by rw [hH3]; exact p1
    have k3q : kd H3 q = 2 := by rw [hH3]; exact q1
    refine r_aload_n (i := 1) dX2_copy_180 rfl rfl ?_
    refine r_aload_n (i := 0) dX2_copy_181 rfl rfl ?_
    refine r_getI dX2_copy_182 fR_X2_38 (by first | assumption | (simp only [kd_sI, kd_sR, kd_sA, kd_sQ, kd_sL, kd_sD, ln_sI, ln_sR, ln_sA, ln_sQ, ln_sL, ln_sD, gI_sR, gI_sA, gI_sQ, gI_sL, gI_sD, gR_sI, gR_sA, gR_sQ, gR_sL, gR_sD, gA_sI, gA_sR, gA_sQ, gA_sL, gA_sD, gQ_sI, gQ_sR, gQ_sA, gQ_sL, gQ_sD, gL_sI, gL_sR, gL_sA, gL_sQ, gL_sD]; assumption) | simp [kd_sI, kd_sR, kd_sA, kd_sQ, kd_sL, kd_sD, ln_sI, ln_sR, ln_sA, ln_sQ, ln_sL, ln_sD, gI_sR, gI_sA, gI_sQ, gI_sL, gI_sD, gR_sI, gR_sA, gR_sQ, gR_sL, gR_sD, gA_sI, gA_sR, gA_sQ, gA_sL, gA_sD, gQ_sI, gQ_sR, gQ_sA, gQ_sL, gQ_sD, gL_sI, gL_sR, gL_sA, gL_sQ, gL_sD, kd_nO, kd_nA, *]) (by first | assumption | exact gI_sIs | exact gR_sRs | with_reducible rfl | (simp only [kd_sI, kd_sR, kd_sA, kd_sQ, kd_sL, kd_sD, ln_sI, ln_sR, ln_sA, ln_sQ, ln_sL, ln_sD, gI_sR, gI_sA, gI_sQ, gI_sL, gI_sD, gR_sI, gR_sA, gR_sQ, gR_sL, gR_sD, gA_sI, gA_sR, gA_sQ, gA_sL, gA_sD, gQ_sI, gQ_sR, gQ_sA, gQ_sL, gQ_sD, gL_sI, gL_sR, gL_sA, gL_sQ, gL_sD]; first | done | assumption | with_reducible rfl) | rfl) ?_
    refine r_putI dX2_copy_185 fG_X2_38 (fun _ => by first | rfl | contradiction) (by first | assumption | (simp only [kd_sI, kd_sR, kd_sA, kd_sQ, kd_sL, kd_sD, ln_sI, ln_sR, ln_sA, ln_sQ, ln_sL, ln_sD, gI_sR, gI_sA, gI_sQ, gI_sL, gI_sD, gR_sI, gR_sA, gR_sQ, gR_sL, gR_sD, gA_sI, gA_sR, gA_sQ, gA_sL, gA_sD, gQ_sI, gQ_sR, gQ_sA, gQ_sL, gQ_sD, gL_sI, gL_sR, gL_sA, gL_sQ, gL_sD]; assumption) | simp [kd_sI, kd_sR, kd_sA, kd_sQ, kd_sL, kd_sD, ln_sI, ln_sR, ln_sA, ln_sQ, ln_sL, ln_sD, gI_sR, gI_sA, gI_sQ, gI_sL, gI_sD, gR_sI, gR_sA, gR_sQ, gR_sL, gR_sD, gA_sI, gA_sR, gA_sQ, gA_sL, gA_sD, gQ_sI, gQ_sR, gQ_sA, gQ_sL, gQ_sD, gL_sI, gL_sR, gL_sA, gL_sQ, gL_sD, kd_nO, kd_nA, *]) (by first | rfl | assumption) (by first | rfl | assumption) ?_
    refine AW.name (fun H4 hH4 => ?_)
    have e15 : gI H4 15 p = g 2 := by rw [hH4, gI_sIn (by decide), hH3, gI_sIn (by decide)]; exact p15
    have k4 : kd H4 p = 2 := by rw [hH4]; exact k3
    have k4q : kd H4 q = 2 := by rw [hH4]; exact k3q
    refine r_aload_n (i := 1) dX2_copy_188 rfl rfl ?_
    refine r_aload_n (i := 0) dX2_copy_189 rfl rfl ?_
    refine r_getI dX2_copy_190 fR_X2_81 (by first | assumption | (simp only [kd_sI, kd_sR, kd_sA, kd_sQ, kd_sL, kd_sD, ln_sI, ln_sR, ln_sA, ln_sQ, ln_sL, ln_sD, gI_sR, gI_sA, gI_sQ, gI_sL, gI_sD, gR_sI, gR_sA, gR_sQ, gR_sL, gR_sD, gA_sI, gA_sR, gA_sQ, gA_sL, gA_sD, gQ_sI, gQ_sR, gQ_sA, gQ_sL, gQ_sD, gL_sI, gL_sR, gL_sA, gL_sQ, gL_sD]; assumption) | simp [kd_sI, kd_sR, kd_sA, kd_sQ, kd_sL, kd_sD, ln_sI, ln_sR, ln_sA, ln_sQ, ln_sL, ln_sD, gI_sR, gI_sA, gI_sQ, gI_sL, gI_sD, gR_sI, gR_sA, gR_sQ, gR_sL, gR_sD, gA_sI, gA_sR, gA_sQ, gA_sL, gA_sD, gQ_sI, gQ_sR, gQ_sA, gQ_sL, gQ_sD, gL_sI, gL_sR, gL_sA, gL_sQ, gL_sD, kd_nO, kd_nA, *]) (by first | assumption | exact gI_sIs | exact gR_sRs | with_reducible rfl | (simp only [kd_sI, kd_sR, kd_sA, kd_sQ, kd_sL, kd_sD, ln_sI, ln_sR, ln_sA, ln_sQ, ln_sL, ln_sD, gI_sR, gI_sA, gI_sQ, gI_sL, gI_sD, gR_sI, gR_sA, gR_sQ, gR_sL, gR_sD, gA_sI, gA_sR, gA_sQ, gA_sL, gA_sD, gQ_sI, gQ_sR, gQ_sA, gQ_sL, gQ_sD, gL_sI, gL_sR, gL_sA, gL_sQ, gL_sD]; first | done | assumption | with_reducible rfl) | rfl) ?_
    refine r_putI dX2_copy_193 fG_X2_81 (fun _ => by first | rfl | contradiction) (by first | assumption | (simp only [kd_sI, kd_sR, kd_sA, kd_sQ, kd_sL, kd_sD, ln_sI, ln_sR, ln_sA, ln_sQ, ln_sL, ln_sD, gI_sR, gI_sA, gI_sQ, gI_sL, gI_sD, gR_sI, gR_sA, gR_sQ, gR_sL, gR_sD, gA_sI, gA_sR, gA_sQ, gA_sL, gA_sD, gQ_sI, gQ_sR, gQ_sA, gQ_sL, gQ_sD, gL_sI, gL_sR, gL_sA, gL_sQ, gL_sD]; assumption) | simp [kd_sI, kd_sR, kd_sA, kd_sQ, kd_sL, kd_sD, ln_sI, ln_sR, ln_sA, ln_sQ, ln_sL, ln_sD, gI_sR, gI_sA, gI_sQ, gI_sL, gI_sD, gR_sI, gR_sA, gR_sQ, gR_sL, gR_sD, gA_sI, gA_sR, gA_sQ, gA_sL, gA_sD, gQ_sI, gQ_sR, gQ_sA, gQ_sL, gQ_sD, gL_sI, gL_sR, gL_sA, gL_sQ, gL_sD, kd_nO, kd_nA, *]) (by first | rfl | assumption) (by first | rfl | assumption) ?_
    refine r_aload_n (i := 1) dX2_copy_196 rfl rfl ?_
    refine r_areturn dX2_copy_197 rfl (by first | exact Or.inl ⟨_, rfl⟩ | exact Or.inr ⟨_, rfl⟩) ?_
    have hK : Ks (fun a => a = q) H2 (sI H4 15 q (g 2)) := by
      refine Ks.sI ?_ (fun _ => rfl)
      rw [hH4, hH3]
      exact ((Ks.rf (S := fun a => a = q)).sI (fun _ => rfl)).sI (fun _ => rfl)
    have z5 : kd (sI H4 15 q (g 2)) (gSt G 1) = 0 := by rw [hH4, hH3]; exact z2
    have s5 := Stq.of (O := O2) hK z5
    refine hQ _ O2 t' q (s.tr2 s5 (fun a ha e => by rw [e] at ha; exact ha hq)) ht' hfr hq ⟨B, ht', ⟨⟨k4q, ?_, ?_, ?_, ?_, ?_, ?_, ?_, gI_sIs⟩, qO⟩, h2.ks s5 (fun a _ e => by rw [e, qO]; exact ⟨by omega, by omega, fun k => by omega⟩), h3.ks s5 (fun a _ e => by rw [e, qO]; omega), h4.ks s5 (fun a _ e => by rw [e, qO]; exact ⟨by omega, by omega⟩), h5.ks s5 (fun a _ e => by rw [e, qO]; omega)⟩
    · show gR H4 8 q = _
      rw [hH4, hH3]
      exact q8
    · show gR H4 9 q = _
      rw [hH4, hH3]
      exact q9
    · show gR H4 10 q = _
      rw [hH4, hH3]
      exact q10
    · show gR H4 11 q = _
      rw [hH4, hH3]
      exact q11
    · show gR H4 12 q = _
      rw [hH4, hH3]
      exact q12
    · rw [gI_sIn (by decide), hH4, gI_sIn (by decide), hH3, gI_sIs]
    · rw [gI_sIn (by decide), hH4, gI_sIs]
  have ph4 : ∀ (rc rs : Nat) (H2 : AH) (O2 : Nat → Nat) (q : Nat) (B : PA) (l2 l3 l4 : Option AV), 21 ≤ rc → 254 ≤ rs → kd H q = 0 → Stq G (fun _ => False) H O H2 O2 → NP G H2 O2 t' q B (nat g 3) (nat g 40) (nat g 101) 0 g (nI 20) (nI 2) 0 → AW mX2_copy G d Qr Qx rc rs H2 129 [some (vR (some p)), some (vR (some q)), l2, l3, l4] [] := by
    intro rc rs H1 O1 q B l2 l3 l4 hrc hrs hq s1 h1
    obtain ⟨⟨p1, p8, p9, p10, p11, p12, p13, p14, p15⟩, pO⟩ := hPs s1
    have hX1 := (hDr.ks s1 (fun _ _ h => h.elim))
    have kr := hX1.1.1
    have hnb := hX1.2.1
    refine r_aload_n (i := 0) dX2_copy_129 rfl rfl ?_
    refine r_getR dX2_copy_130 fR_X2_31 (by first | assumption | (simp only [kd_sI, kd_sR, kd_sA, kd_sQ, kd_sL, kd_sD, ln_sI, ln_sR, ln_sA, ln_sQ, ln_sL, ln_sD, gI_sR, gI_sA, gI_sQ, gI_sL, gI_sD, gR_sI, gR_sA, gR_sQ, gR_sL, gR_sD, gA_sI, gA_sR, gA_sQ, gA_sL, gA_sD, gQ_sI, gQ_sR, gQ_sA, gQ_sL, gQ_sD, gL_sI, gL_sR, gL_sA, gL_sQ, gL_sD]; assumption) | simp [kd_sI, kd_sR, kd_sA, kd_sQ, kd_sL, kd_sD, ln_sI, ln_sR, ln_sA, ln_sQ, ln_sL, ln_sD, gI_sR, gI_sA, gI_sQ, gI_sL, gI_sD, gR_sI, gR_sA, gR_sQ, gR_sL, gR_sD, gA_sI, gA_sR, gA_sQ, gA_sL, gA_sD, gQ_sI, gQ_sR, gQ_sA, gQ_sL, gQ_sD, gL_sI, gL_sR, gL_sA, gL_sQ, gL_sD, kd_nO, kd_nA, *]) (by first | assumption | exact gI_sIs | exact gR_sRs | with_reducible rfl | (simp only [kd_sI, kd_sR, kd_sA, kd_sQ, kd_sL, kd_sD, ln_sI, ln_sR, ln_sA, ln_sQ, ln_sL, ln_sD, gI_sR, gI_sA, gI_sQ, gI_sL, gI_sD, gR_sI, gR_sA, gR_sQ, gR_sL, gR_sD, gA_sI, gA_sR, gA_sQ, gA_sL, gA_sD, gQ_sI, gQ_sR, gQ_sA, gQ_sL, gQ_sD, gL_sI, gL_sR, gL_sA, gL_sQ, gL_sD]; first | done | assumption | with_reducible rfl) | rfl) ?_
    refine r_callV (As := []) (mc' := 1) (ms' := 4) dX2_copy_133 k_X2_42 rfl (by first | assumption | (simp only [kd_sI, kd_sR, kd_sA, kd_sQ, kd_sL, kd_sD, ln_sI, ln_sR, ln_sA, ln_sQ, ln_sL, ln_sD, gI_sR, gI_sA, gI_sQ, gI_sL, gI_sD, gR_sI, gR_sA, gR_sQ, gR_sL, gR_sD, gA_sI, gA_sR, gA_sQ, gA_sL, gA_sD, gQ_sI, gQ_sR, gQ_sA, gQ_sL, gQ_sD, gL_sI, gL_sR, gL_sA, gL_sQ, gL_sD]; assumption) | simp [kd_sI, kd_sR, kd_sA, kd_sQ, kd_sL, kd_sD, ln_sI, ln_sR, ln_sA, ln_sQ, ln_sL, ln_sD, gI_sR, gI_sA, gI_sQ, gI_sL, gI_sD, gR_sI, gR_sA, gR_sQ, gR_sL, gR_sD, gA_sI, gA_sR, gA_sQ, gA_sL, gA_sD, gQ_sI, gQ_sR, gQ_sA, gQ_sL, gQ_sD, gL_sI, gL_sR, gL_sA, gL_sQ, gL_sD, kd_nO, kd_nA, *]) (T := TJ2) (N := 3) rfl (by first | assumption | omega) (by first | assumption | omega) (by first | assumption | omega) (Nat.le_of_ble_eq_true rfl) ?_
    refine s_iterator (by omega) kr (fun H2 it hit hK2 hI2 => ?_)
    refine AW.st0 (fun z2 => ?_)
    have sI2 : Stq G (fun _ => False) H1 O1 H2 (rlb O1 H1 7) := Stq.rl 7 hK2 z2
    show AW mX2_copy G d Qr Qx _ _ H2 136 _ _
    refine r_astore_n (i := 2) dX2_copy_136 rfl (Nat.le_of_ble_eq_true rfl) (by simp only [lset]; rfl) ?_
    have loop : ∀ (k i rc rs : Nat) (H2 : AH) (O2 : Nat → Nat) (l3 l4 : Option AV), i + k = nat g 354 → 0 + 2 * k ≤ rc → 0 + 25 * k ≤ rs → Stq G (fun _ => False) H O H2 O2 → NP G H2 O2 t' q B (nat g 3) (nat g 40) (nat g 101) i g (nI 20) (nI 2) 0 → (ItS H2 it A.dr i ∧ O2 it = 7 ∧ kd H it = 0) → AW mX2_copy G d Qr Qx rc rs H2 137 [some (vR (some p)), some (vR (some q)), some (vR (some it)), l3, l4] [] := by
      intro k
      induction k with
      | zero =>
        intro i rc rs H2 O2 l3 l4 hi hrc hrs s2 h2 hI
        have hX := hDr.ks s2 (fun _ _ h => h.elim)
        have ki := hI.1.1
        refine r_aload_n (i := 2) dX2_copy_137 rfl rfl ?_
        refine r_callF (As := []) (mc' := 0) (ms' := 0) dX2_copy_138 k_X2_46_J14 rfl (by first | assumption | (simp only [kd_sI, kd_sR, kd_sA, kd_sQ, kd_sL, kd_sD, ln_sI, ln_sR, ln_sA, ln_sQ, ln_sL, ln_sD, gI_sR, gI_sA, gI_sQ, gI_sL, gI_sD, gR_sI, gR_sA, gR_sQ, gR_sL, gR_sD, gA_sI, gA_sR, gA_sQ, gA_sL, gA_sD, gQ_sI, gQ_sR, gQ_sA, gQ_sL, gQ_sD, gL_sI, gL_sR, gL_sA, gL_sQ, gL_sD]; assumption) | simp [kd_sI, kd_sR, kd_sA, kd_sQ, kd_sL, kd_sD, ln_sI, ln_sR, ln_sA, ln_sQ, ln_sL, ln_sD, gI_sR, gI_sA, gI_sQ, gI_sL, gI_sD, gR_sI, gR_sA, gR_sQ, gR_sL, gR_sD, gA_sI, gA_sR, gA_sQ, gA_sL, gA_sD, gQ_sI, gQ_sR, gQ_sA, gQ_sL, gQ_sD, gL_sI, gL_sR, gL_sA, gL_sQ, gL_sD, kd_nO, kd_nA, *]) (T := TJ14) (N := 4) rfl (by first | assumption | omega) (by first | assumption | omega) (by first | assumption | omega) (Nat.le_of_ble_eq_true rfl) ?_
        refine s_hasNext hI.1 hX.1.1 hX.1.2.1 (by omega) (by omega) ?_
        rw [if_pos (by omega)]
        have hin : i = nat g 354 := by omega
        rw [hin] at h2
        refine r_if_eq (tgt := 172) dX2_copy_143 (by decide) (fun h143 => ?_) (fun h143 => ?_)
        · exact fin _ _ H2 O2 q B _ _ _ hq s2 h2
        · exact absurd rfl h143
      | succ k ih =>
        intro i rc rs H2 O2 l3 l4 hi hrc hrs s2 h2 hI
        have hX := hDr.ks s2 (fun _ _ h => h.elim)
        have ki := hI.1.1
        refine r_aload_n (i := 2) dX2_copy_137 rfl rfl ?_
        refine r_callF (As := []) (mc' := 0) (ms' := 0) dX2_copy_138 k_X2_46_J14 rfl (by first | assumption | (simp only [kd_sI, kd_sR, kd_sA, kd_sQ, kd_sL, kd_sD, ln_sI, ln_sR, ln_sA, ln_sQ, ln_sL, ln_sD, gI_sR, gI_sA, gI_sQ, gI_sL, gI_sD, gR_sI, gR_sA, gR_sQ, gR_sL, gR_sD, gA_sI, gA_sR, gA_sQ, gA_sL, gA_sD, gQ_sI, gQ_sR, gQ_sA, gQ_sL, gQ_sD, gL_sI, gL_sR, gL_sA, gL_sQ, gL_sD]; assumption) | simp [kd_sI, kd_sR, kd_sA, kd_sQ, kd_sL, kd_sD, ln_sI, ln_sR, ln_sA, ln_sQ, ln_sL, ln_sD, gI_sR, gI_sA, gI_sQ, gI_sL, gI_sD, gR_sI, gR_sA, gR_sQ, gR_sL, gR_sD, gA_sI, gA_sR, gA_sQ, gA_sL, gA_sD, gQ_sI, gQ_sR, gQ_sA, gQ_sL, gQ_sD, gL_sI, gL_sR, gL_sA, gL_sQ, gL_sD, kd_nO, kd_nA, *]) (T := TJ14) (N := 4) rfl (by first | assumption | omega) (by first | assumption | omega) (by first | assumption | omega) (Nat.le_of_ble_eq_true rfl) ?_
        refine s_hasNext hI.1 hX.1.1 hX.1.2.1 (by omega) (by omega) ?_
        rw [if_neg (by omega)]
        refine r_if_eq (tgt := 172) dX2_copy_143 (by decide) (fun h143 => ?_) (fun h143 => ?_)
        · exact absurd h143 (by decide)
        · refine r_aload_n (i := 2) dX2_copy_146 rfl rfl ?_
          refine r_callF (As := []) (mc' := 0) (ms' := 0) dX2_copy_147 k_X2_52_J14 rfl (by first | assumption | (simp only [kd_sI, kd_sR, kd_sA, kd_sQ, kd_sL, kd_sD, ln_sI, ln_sR, ln_sA, ln_sQ, ln_sL, ln_sD, gI_sR, gI_sA, gI_sQ, gI_sL, gI_sD, gR_sI, gR_sA, gR_sQ, gR_sL, gR_sD, gA_sI, gA_sR, gA_sQ, gA_sL, gA_sD, gQ_sI, gQ_sR, gQ_sA, gQ_sL, gQ_sD, gL_sI, gL_sR, gL_sA, gL_sQ, gL_sD]; assumption) | simp [kd_sI, kd_sR, kd_sA, kd_sQ, kd_sL, kd_sD, ln_sI, ln_sR, ln_sA, ln_sQ, ln_sL, ln_sD, gI_sR, gI_sA, gI_sQ, gI_sL, gI_sD, gR_sI, gR_sA, gR_sQ, gR_sL, gR_sD, gA_sI, gA_sR, gA_sQ, gA_sL, gA_sD, gQ_sI, gQ_sR, gQ_sA, gQ_sL, gQ_sD, gL_sI, gL_sR, gL_sA, gL_sQ, gL_sD, kd_nO, kd_nA, *]) (T := TJ14) (N := 4) rfl (by first | assumption | omega) (by first | assumption | omega) (by first | assumption | omega) (Nat.le_of_ble_eq_true rfl) ?_
          refine s_next (by omega) hI.1 hX.1 (by omega) (by omega) (fun H3 hK3 hI3 => ?_)
          refine AW.st0 (fun z3 => ?_)
          obtain ⟨s3, h3⟩ := nxt s2 h2 hI hK3 z3
          have hI3 : ItS H3 it A.dr (i + 1) ∧ O2 it = 7 ∧ kd H it = 0 := ⟨hI3, hI.2⟩
          have hX3 := hDr.ks s3 (fun _ _ h => h.elim)
          have hLn : kd H3 A.dr ≠ 0 := by rw [hX3.1.1]; decide
          have hitn : kd H3 it ≠ 0 := by rw [hI3.1.1]; decide
          show AW mX2_copy G d Qr Qx _ _ H3 152 _ _
          obtain ⟨⟨q1, q8, q9, q10, q11, q12, q13, q14, q15⟩, qO⟩ := h3.1
          obtain ⟨hO1, -⟩ := hX3.2.2.2.1 i (by omega)
          have kt := hO1.1
          refine r_cast dX2_copy_152 (by first | assumption | (simp only [kd_sI, kd_sR, kd_sA, kd_sQ, kd_sL, kd_sD, ln_sI, ln_sR, ln_sA, ln_sQ, ln_sL, ln_sD, gI_sR, gI_sA, gI_sQ, gI_sL, gI_sD, gR_sI, gR_sA, gR_sQ, gR_sL, gR_sD, gA_sI, gA_sR, gA_sQ, gA_sL, gA_sD, gQ_sI, gQ_sR, gQ_sA, gQ_sL, gQ_sD, gL_sI, gL_sR, gL_sA, gL_sQ, gL_sD]; assumption) | simp [kd_sI, kd_sR, kd_sA, kd_sQ, kd_sL, kd_sD, ln_sI, ln_sR, ln_sA, ln_sQ, ln_sL, ln_sD, gI_sR, gI_sA, gI_sQ, gI_sL, gI_sD, gR_sI, gR_sA, gR_sQ, gR_sL, gR_sD, gA_sI, gA_sR, gA_sQ, gA_sL, gA_sD, gQ_sI, gQ_sR, gQ_sA, gQ_sL, gQ_sD, gL_sI, gL_sR, gL_sA, gL_sQ, gL_sD, kd_nO, kd_nA, *]) (T := TX6) (N := 3) rfl q1217 (Or.inl rfl) ?_
          refine r_astore_n (i := 3) dX2_copy_155 rfl (Nat.le_of_ble_eq_true rfl) (by simp only [lset]; rfl) ?_
          refine r_aload_n (i := 1) dX2_copy_156 rfl rfl ?_
          refine r_getR dX2_copy_157 fR_X2_31 (by first | assumption | (simp only [kd_sI, kd_sR, kd_sA, kd_sQ, kd_sL, kd_sD, ln_sI, ln_sR, ln_sA, ln_sQ, ln_sL, ln_sD, gI_sR, gI_sA, gI_sQ, gI_sL, gI_sD, gR_sI, gR_sA, gR_sQ, gR_sL, gR_sD, gA_sI, gA_sR, gA_sQ, gA_sL, gA_sD, gQ_sI, gQ_sR, gQ_sA, gQ_sL, gQ_sD, gL_sI, gL_sR, gL_sA, gL_sQ, gL_sD]; assumption) | simp [kd_sI, kd_sR, kd_sA, kd_sQ, kd_sL, kd_sD, ln_sI, ln_sR, ln_sA, ln_sQ, ln_sL, ln_sD, gI_sR, gI_sA, gI_sQ, gI_sL, gI_sD, gR_sI, gR_sA, gR_sQ, gR_sL, gR_sD, gA_sI, gA_sR, gA_sQ, gA_sL, gA_sD, gQ_sI, gQ_sR, gQ_sA, gQ_sL, gQ_sD, gL_sI, gL_sR, gL_sA, gL_sQ, gL_sD, kd_nO, kd_nA, *]) (by first | assumption | exact gI_sIs | exact gR_sRs | with_reducible rfl | (simp only [kd_sI, kd_sR, kd_sA, kd_sQ, kd_sL, kd_sD, ln_sI, ln_sR, ln_sA, ln_sQ, ln_sL, ln_sD, gI_sR, gI_sA, gI_sQ, gI_sL, gI_sD, gR_sI, gR_sA, gR_sQ, gR_sL, gR_sD, gA_sI, gA_sR, gA_sQ, gA_sL, gA_sD, gQ_sI, gQ_sR, gQ_sA, gQ_sL, gQ_sD, gL_sI, gL_sR, gL_sA, gL_sQ, gL_sD]; first | done | assumption | with_reducible rfl) | rfl) ?_
          refine r_aload_n (i := 3) dX2_copy_160 rfl rfl ?_
          refine r_callV (As := []) (mc' := 1) (ms' := 3) dX2_copy_161 k_X2_78 rfl (by first | assumption | (simp only [kd_sI, kd_sR, kd_sA, kd_sQ, kd_sL, kd_sD, ln_sI, ln_sR, ln_sA, ln_sQ, ln_sL, ln_sD, gI_sR, gI_sA, gI_sQ, gI_sL, gI_sD, gR_sI, gR_sA, gR_sQ, gR_sL, gR_sD, gA_sI, gA_sR, gA_sQ, gA_sL, gA_sD, gQ_sI, gQ_sR, gQ_sA, gQ_sL, gQ_sD, gL_sI, gL_sR, gL_sA, gL_sQ, gL_sD]; assumption) | simp [kd_sI, kd_sR, kd_sA, kd_sQ, kd_sL, kd_sD, ln_sI, ln_sR, ln_sA, ln_sQ, ln_sL, ln_sD, gI_sR, gI_sA, gI_sQ, gI_sL, gI_sD, gR_sI, gR_sA, gR_sQ, gR_sL, gR_sD, gA_sI, gA_sR, gA_sQ, gA_sL, gA_sD, gQ_sI, gQ_sR, gQ_sA, gQ_sL, gQ_sD, gL_sI, gL_sR, gL_sA, gL_sQ, gL_sD, kd_nO, kd_nA, *]) (T := TX6) (N := 3) rfl (by first | assumption | omega) (by first | assumption | omega) (by first | assumption | omega) (Nat.le_of_ble_eq_true rfl) ?_
          refine c_drumCopy (by omega) hO1 (fun H4 a' hK4 ha' hT4 => ?_)
          refine AW.st0 (fun z4 => ?_)
          have sc : Stq G (fun _ => False) H3 O2 H4 (rlb O2 H3 (8 * t' + 5)) := Stq.rl _ hK4 z4
          have s4 := s3.tr sc
          have hI4 := itS hI3 hLn sc (fun h => h) (fun h => h)
          have hX4 := hDr.ks s4 (fun _ _ h => h.elim)
          have hLn4 : kd H4 A.dr ≠ 0 := by rw [hX4.1.1]; decide
          obtain ⟨g1, g2, g3, g4, g5⟩ := h3
          obtain ⟨e3, dr3, x3⟩ := g5
          have x4 := x3.ks sc (fun _ _ h => h.elim)
          have kr4 := x4.1.1
          have f1 := g1.ks sc (fun _ _ h => h.elim)
          have f2 := g2.ks sc (fun _ _ h => h.elim)
          have f3 := g3.ks sc (fun _ _ h => h.elim)
          have f4 := g4.ks sc (fun _ _ h => h.elim)
          obtain ⟨⟨r1, r8, r9, r10, r11, r12, r13, r14, r15⟩, rO⟩ := f1
          show AW mX2_copy G d Qr Qx _ _ H4 164 _ _
          refine r_callV (As := [_]) (mc' := 1) (ms' := 22) dX2_copy_164 k_X2_68 rfl (by first | assumption | (simp only [kd_sI, kd_sR, kd_sA, kd_sQ, kd_sL, kd_sD, ln_sI, ln_sR, ln_sA, ln_sQ, ln_sL, ln_sD, gI_sR, gI_sA, gI_sQ, gI_sL, gI_sD, gR_sI, gR_sA, gR_sQ, gR_sL, gR_sD, gA_sI, gA_sR, gA_sQ, gA_sL, gA_sD, gQ_sI, gQ_sR, gQ_sA, gQ_sL, gQ_sD, gL_sI, gL_sR, gL_sA, gL_sQ, gL_sD]; assumption) | simp [kd_sI, kd_sR, kd_sA, kd_sQ, kd_sL, kd_sD, ln_sI, ln_sR, ln_sA, ln_sQ, ln_sL, ln_sD, gI_sR, gI_sA, gI_sQ, gI_sL, gI_sD, gR_sI, gR_sA, gR_sQ, gR_sL, gR_sD, gA_sI, gA_sR, gA_sQ, gA_sL, gA_sD, gQ_sI, gQ_sR, gQ_sA, gQ_sL, gQ_sD, gL_sI, gL_sR, gL_sA, gL_sQ, gL_sD, kd_nO, kd_nA, *]) (T := TJ2) (N := 3) rfl (by first | assumption | omega) (by first | assumption | omega) (by first | assumption | omega) (Nat.le_of_ble_eq_true rfl) ?_
          refine s_add (by omega) x4.1 (by omega) (Or.inl ⟨by rw [hT4.1]; decide, by rw [hT4.1]; decide⟩) (fun H5 e5 hK5 he5 hL5 => ?_)
          refine AW.st0 (fun z5 => ?_)
          obtain ⟨s45, x5⟩ := x4.add z4 (by omega) hK5 he5 hL5 z5 hT4 (rlb_f ha') (fun j hj e => absurd ((x3.2.2.2.1 j hj).1.1) (by rw [e, ha']; decide))
          have hit4 : ¬ (rlb O2 H3 (8 * t' + 5) it = 8 * t' + 5) := by rw [hI4.2.1]; omega
          have hL4 : ¬ (rlb O2 H3 (8 * t' + 5) A.dr = 8 * t' + 5) := fun e => old s4 5 A.dr (by rw [hDr.1.1]; decide) e
          show AW mX2_copy G d Qr Qx _ _ H5 167 _ _
          refine r_istore dX2_copy_167 (Nat.le_of_ble_eq_true rfl) (by simp only [lset]; rfl) ?_
          refine r_goto (tgt := 137) dX2_copy_169 (by decide) ?_
          refine ih (i + 1) _ _ H5 _ _ _ (by omega) (by omega) (by omega) (s4.tr2 s45 (fun a ha e => old s4 5 a ha e)) ⟨(PlF.ks ⟨⟨r1, r8, r9, r10, r11, r12, r13, r14, r15⟩, rO⟩ s45 (fun a _ e => by omega)), (f2.ks s45 (fun a _ e => by exact ⟨by omega, by omega, fun k => by omega⟩)), (f3.ks s45 (fun a _ e => by omega)), (f4.ks s45 (fun a _ e => by exact ⟨by omega, by omega⟩)), ⟨_, _, x5⟩⟩ (itS hI4 hLn4 s45 hit4 hL4)
    exact loop (nat g 354) 0 _ _ H2 _ _ _ (by omega) (by omega) (by omega) (s1.tr sI2) (h1.ks sI2 (fun _ _ h => h.elim)) ⟨hI2, rlb_f hit, s1.1.fr hit⟩
  have ph3 : ∀ (rc rs : Nat) (H2 : AH) (O2 : Nat → Nat) (q : Nat) (B : PA) (l2 l3 l4 : Option AV), 82 ≤ rc → 846 ≤ rs → kd H q = 0 → Stq G (fun _ => False) H O H2 O2 → NP G H2 O2 t' q B (nat g 3) (nat g 40) 0 0 g (nI 20) (nI 2) 0 → AW mX2_copy G d Qr Qx rc rs H2 86 [some (vR (some p)), some (vR (some q)), l2, l3, l4] [] := by
    intro rc rs H1 O1 q B l2 l3 l4 hrc hrs hq s1 h1
    obtain ⟨⟨p1, p8, p9, p10, p11, p12, p13, p14, p15⟩, pO⟩ := hPs s1
    have hX1 := (hCa.ks s1 (fun _ _ h => h.elim))
    have kr := hX1.1.1
    have hnb := hX1.2.1
    refine r_aload_n (i := 0) dX2_copy_86 rfl rfl ?_
    refine r_getR dX2_copy_87 fR_X2_28 (by first | assumption | (simp only [kd_sI, kd_sR, kd_sA, kd_sQ, kd_sL, kd_sD, ln_sI, ln_sR, ln_sA, ln_sQ, ln_sL, ln_sD, gI_sR, gI_sA, gI_sQ, gI_sL, gI_sD, gR_sI, gR_sA, gR_sQ, gR_sL, gR_sD, gA_sI, gA_sR, gA_sQ, gA_sL, gA_sD, gQ_sI, gQ_sR, gQ_sA, gQ_sL, gQ_sD, gL_sI, gL_sR, gL_sA, gL_sQ, gL_sD]; assumption) | simp [kd_sI, kd_sR, kd_sA, kd_sQ, kd_sL, kd_sD, ln_sI, ln_sR, ln_sA, ln_sQ, ln_sL, ln_sD, gI_sR, gI_sA, gI_sQ, gI_sL, gI_sD, gR_sI, gR_sA, gR_sQ, gR_sL, gR_sD, gA_sI, gA_sR, gA_sQ, gA_sL, gA_sD, gQ_sI, gQ_sR, gQ_sA, gQ_sL, gQ_sD, gL_sI, gL_sR, gL_sA, gL_sQ, gL_sD, kd_nO, kd_nA, *]) (by first | assumption | exact gI_sIs | exact gR_sRs | with_reducible rfl | (simp only [kd_sI, kd_sR, kd_sA, kd_sQ, kd_sL, kd_sD, ln_sI, ln_sR, ln_sA, ln_sQ, ln_sL, ln_sD, gI_sR, gI_sA, gI_sQ, gI_sL, gI_sD, gR_sI, gR_sA, gR_sQ, gR_sL, gR_sD, gA_sI, gA_sR, gA_sQ, gA_sL, gA_sD, gQ_sI, gQ_sR, gQ_sA, gQ_sL, gQ_sD, gL_sI, gL_sR, gL_sA, gL_sQ, gL_sD]; first | done | assumption | with_reducible rfl) | rfl) ?_
    refine r_callV (As := []) (mc' := 1) (ms' := 4) dX2_copy_90 k_X2_42 rfl (by first | assumption | (simp only [kd_sI, kd_sR, kd_sA, kd_sQ, kd_sL, kd_sD, ln_sI, ln_sR, ln_sA, ln_sQ, ln_sL, ln_sD, gI_sR, gI_sA, gI_sQ, gI_sL, gI_sD, gR_sI, gR_sA, gR_sQ, gR_sL, gR_sD, gA_sI, gA_sR, gA_sQ, gA_sL, gA_sD, gQ_sI, gQ_sR, gQ_sA, gQ_sL, gQ_sD, gL_sI, gL_sR, gL_sA, gL_sQ, gL_sD]; assumption) | simp [kd_sI, kd_sR, kd_sA, kd_sQ, kd_sL, kd_sD, ln_sI, ln_sR, ln_sA, ln_sQ, ln_sL, ln_sD, gI_sR, gI_sA, gI_sQ, gI_sL, gI_sD, gR_sI, gR_sA, gR_sQ, gR_sL, gR_sD, gA_sI, gA_sR, gA_sQ, gA_sL, gA_sD, gQ_sI, gQ_sR, gQ_sA, gQ_sL, gQ_sD, gL_sI, gL_sR, gL_sA, gL_sQ, gL_sD, kd_nO, kd_nA, *]) (T := TJ2) (N := 3) rfl (by first | assumption | omega) (by first | assumption | omega) (by first | assumption | omega) (Nat.le_of_ble_eq_true rfl) ?_
    refine s_iterator (by omega) kr (fun H2 it hit hK2 hI2 => ?_)
    refine AW.st0 (fun z2 => ?_)
    have sI2 : Stq G (fun _ => False) H1 O1 H2 (rlb O1 H1 7) := Stq.rl 7 hK2 z2
    show AW mX2_copy G d Qr Qx _ _ H2 93 _ _
    refine r_astore_n (i := 2) dX2_copy_93 rfl (Nat.le_of_ble_eq_true rfl) (by simp only [lset]; rfl) ?_
    have loop : ∀ (k i rc rs : Nat) (H2 : AH) (O2 : Nat → Nat) (l3 l4 : Option AV), i + k = nat g 101 → 21 + 5 * k ≤ rc → 254 + 49 * k ≤ rs → Stq G (fun _ => False) H O H2 O2 → NP G H2 O2 t' q B (nat g 3) (nat g 40) i 0 g (nI 20) (nI 2) 0 → (ItS H2 it A.ca i ∧ O2 it = 7 ∧ kd H it = 0) → AW mX2_copy G d Qr Qx rc rs H2 94 [some (vR (some p)), some (vR (some q)), some (vR (some it)), l3, l4] [] := by
      intro k
      induction k with
      | zero =>
        intro i rc rs H2 O2 l3 l4 hi hrc hrs s2 h2 hI
        have hX := hCa.ks s2 (fun _ _ h => h.elim)
        have ki := hI.1.1
        refine r_aload_n (i := 2) dX2_copy_94 rfl rfl ?_
        refine r_callF (As := []) (mc' := 0) (ms' := 0) dX2_copy_95 k_X2_46_J14 rfl (by first | assumption | (simp only [kd_sI, kd_sR, kd_sA, kd_sQ, kd_sL, kd_sD, ln_sI, ln_sR, ln_sA, ln_sQ, ln_sL, ln_sD, gI_sR, gI_sA, gI_sQ, gI_sL, gI_sD, gR_sI, gR_sA, gR_sQ, gR_sL, gR_sD, gA_sI, gA_sR, gA_sQ, gA_sL, gA_sD, gQ_sI, gQ_sR, gQ_sA, gQ_sL, gQ_sD, gL_sI, gL_sR, gL_sA, gL_sQ, gL_sD]; assumption) | simp [kd_sI, kd_sR, kd_sA, kd_sQ, kd_sL, kd_sD, ln_sI, ln_sR, ln_sA, ln_sQ, ln_sL, ln_sD, gI_sR, gI_sA, gI_sQ, gI_sL, gI_sD, gR_sI, gR_sA, gR_sQ, gR_sL, gR_sD, gA_sI, gA_sR, gA_sQ, gA_sL, gA_sD, gQ_sI, gQ_sR, gQ_sA, gQ_sL, gQ_sD, gL_sI, gL_sR, gL_sA, gL_sQ, gL_sD, kd_nO, kd_nA, *]) (T := TJ14) (N := 4) rfl (by first | assumption | omega) (by first | assumption | omega) (by first | assumption | omega) (Nat.le_of_ble_eq_true rfl) ?_
        refine s_hasNext hI.1 hX.1.1 hX.1.2.1 (by omega) (by omega) ?_
        rw [if_pos (by omega)]
        have hin : i = nat g 101 := by omega
        rw [hin] at h2
        refine r_if_eq (tgt := 129) dX2_copy_100 (by decide) (fun h100 => ?_) (fun h100 => ?_)
        · exact ph4 _ _ H2 O2 q B _ _ _ (by omega) (by omega) hq s2 h2
        · exact absurd rfl h100
      | succ k ih =>
        intro i rc rs H2 O2 l3 l4 hi hrc hrs s2 h2 hI
        have hX := hCa.ks s2 (fun _ _ h => h.elim)
        have ki := hI.1.1
        refine r_aload_n (i := 2) dX2_copy_94 rfl rfl ?_
        refine r_callF (As := []) (mc' := 0) (ms' := 0) dX2_copy_95 k_X2_46_J14 rfl (by first | assumption | (simp only [kd_sI, kd_sR, kd_sA, kd_sQ, kd_sL, kd_sD, ln_sI, ln_sR, ln_sA, ln_sQ, ln_sL, ln_sD, gI_sR, gI_sA, gI_sQ, gI_sL, gI_sD, gR_sI, gR_sA, gR_sQ, gR_sL, gR_sD, gA_sI, gA_sR, gA_sQ, gA_sL, gA_sD, gQ_sI, gQ_sR, gQ_sA, gQ_sL, gQ_sD, gL_sI, gL_sR, gL_sA, gL_sQ, gL_sD]; assumption) | simp [kd_sI, kd_sR, kd_sA, kd_sQ, kd_sL, kd_sD, ln_sI, ln_sR, ln_sA, ln_sQ, ln_sL, ln_sD, gI_sR, gI_sA, gI_sQ, gI_sL, gI_sD, gR_sI, gR_sA, gR_sQ, gR_sL, gR_sD, gA_sI, gA_sR, gA_sQ, gA_sL, gA_sD, gQ_sI, gQ_sR, gQ_sA, gQ_sL, gQ_sD, gL_sI, gL_sR, gL_sA, gL_sQ, gL_sD, kd_nO, kd_nA, *]) (T := TJ14) (N := 4) rfl (by first | assumption | omega) (by first | assumption | omega) (by first | assumption | omega) (Nat.le_of_ble_eq_true rfl) ?_
        refine s_hasNext hI.1 hX.1.1 hX.1.2.1 (by omega) (by omega) ?_
        rw [if_neg (by omega)]
        refine r_if_eq (tgt := 129) dX2_copy_100 (by decide) (fun h100 => ?_) (fun h100 => ?_)
        · exact absurd h100 (by decide)
        · refine r_aload_n (i := 2) dX2_copy_103 rfl rfl ?_
          refine r_callF (As := []) (mc' := 0) (ms' := 0) dX2_copy_104 k_X2_52_J14 rfl (by first | assumption | (simp only [kd_sI, kd_sR, kd_sA, kd_sQ, kd_sL, kd_sD, ln_sI, ln_sR, ln_sA, ln_sQ, ln_sL, ln_sD, gI_sR, gI_sA, gI_sQ, gI_sL, gI_sD, gR_sI, gR_sA, gR_sQ, gR_sL, gR_sD, gA_sI, gA_sR, gA_sQ, gA_sL, gA_sD, gQ_sI, gQ_sR, gQ_sA, gQ_sL, gQ_sD, gL_sI, gL_sR, gL_sA, gL_sQ, gL_sD]; assumption) | simp [kd_sI, kd_sR, kd_sA, kd_sQ, kd_sL, kd_sD, ln_sI, ln_sR, ln_sA, ln_sQ, ln_sL, ln_sD, gI_sR, gI_sA, gI_sQ, gI_sL, gI_sD, gR_sI, gR_sA, gR_sQ, gR_sL, gR_sD, gA_sI, gA_sR, gA_sQ, gA_sL, gA_sD, gQ_sI, gQ_sR, gQ_sA, gQ_sL, gQ_sD, gL_sI, gL_sR, gL_sA, gL_sQ, gL_sD, kd_nO, kd_nA, *]) (T := TJ14) (N := 4) rfl (by first | assumption | omega) (by first | assumption | omega) (by first | assumption | omega) (Nat.le_of_ble_eq_true rfl) ?_
          refine s_next (by omega) hI.1 hX.1 (by omega) (by omega) (fun H3 hK3 hI3 => ?_)
          refine AW.st0 (fun z3 => ?_)
          obtain ⟨s3, h3⟩ := nxt s2 h2 hI hK3 z3
          have hI3 : ItS H3 it A.ca (i + 1) ∧ O2 it = 7 ∧ kd H it = 0 := ⟨hI3, hI.2⟩
          have hX3 := hCa.ks s3 (fun _ _ h => h.elim)
          have hLn : kd H3 A.ca ≠ 0 := by rw [hX3.1.1]; decide
          have hitn : kd H3 it ≠ 0 := by rw [hI3.1.1]; decide
          show AW mX2_copy G d Qr Qx _ _ H3 109 _ _
          obtain ⟨⟨q1, q8, q9, q10, q11, q12, q13, q14, q15⟩, qO⟩ := h3.1
          obtain ⟨hO1, -, -, hO4⟩ := hX3.2.2.2.1 i (by omega)
          have kt := hO1.1.1
          refine r_cast dX2_copy_109 (by first | assumption | (simp only [kd_sI, kd_sR, kd_sA, kd_sQ, kd_sL, kd_sD, ln_sI, ln_sR, ln_sA, ln_sQ, ln_sL, ln_sD, gI_sR, gI_sA, gI_sQ, gI_sL, gI_sD, gR_sI, gR_sA, gR_sQ, gR_sL, gR_sD, gA_sI, gA_sR, gA_sQ, gA_sL, gA_sD, gQ_sI, gQ_sR, gQ_sA, gQ_sL, gQ_sD, gL_sI, gL_sR, gL_sA, gL_sQ, gL_sD]; assumption) | simp [kd_sI, kd_sR, kd_sA, kd_sQ, kd_sL, kd_sD, ln_sI, ln_sR, ln_sA, ln_sQ, ln_sL, ln_sD, gI_sR, gI_sA, gI_sQ, gI_sL, gI_sD, gR_sI, gR_sA, gR_sQ, gR_sL, gR_sD, gA_sI, gA_sR, gA_sQ, gA_sL, gA_sD, gQ_sI, gQ_sR, gQ_sA, gQ_sL, gQ_sD, gL_sI, gL_sR, gL_sA, gL_sQ, gL_sD, kd_nO, kd_nA, *]) (T := TX5) (N := 7) rfl q1222 (Or.inl rfl) ?_
          refine r_astore_n (i := 3) dX2_copy_112 rfl (Nat.le_of_ble_eq_true rfl) (by simp only [lset]; rfl) ?_
          refine r_aload_n (i := 1) dX2_copy_113 rfl rfl ?_
          refine r_getR dX2_copy_114 fR_X2_28 (by first | assumption | (simp only [kd_sI, kd_sR, kd_sA, kd_sQ, kd_sL, kd_sD, ln_sI, ln_sR, ln_sA, ln_sQ, ln_sL, ln_sD, gI_sR, gI_sA, gI_sQ, gI_sL, gI_sD, gR_sI, gR_sA, gR_sQ, gR_sL, gR_sD, gA_sI, gA_sR, gA_sQ, gA_sL, gA_sD, gQ_sI, gQ_sR, gQ_sA, gQ_sL, gQ_sD, gL_sI, gL_sR, gL_sA, gL_sQ, gL_sD]; assumption) | simp [kd_sI, kd_sR, kd_sA, kd_sQ, kd_sL, kd_sD, ln_sI, ln_sR, ln_sA, ln_sQ, ln_sL, ln_sD, gI_sR, gI_sA, gI_sQ, gI_sL, gI_sD, gR_sI, gR_sA, gR_sQ, gR_sL, gR_sD, gA_sI, gA_sR, gA_sQ, gA_sL, gA_sD, gQ_sI, gQ_sR, gQ_sA, gQ_sL, gQ_sD, gL_sI, gL_sR, gL_sA, gL_sQ, gL_sD, kd_nO, kd_nA, *]) (by first | assumption | exact gI_sIs | exact gR_sRs | with_reducible rfl | (simp only [kd_sI, kd_sR, kd_sA, kd_sQ, kd_sL, kd_sD, ln_sI, ln_sR, ln_sA, ln_sQ, ln_sL, ln_sD, gI_sR, gI_sA, gI_sQ, gI_sL, gI_sD, gR_sI, gR_sA, gR_sQ, gR_sL, gR_sD, gA_sI, gA_sR, gA_sQ, gA_sL, gA_sD, gQ_sI, gQ_sR, gQ_sA, gQ_sL, gQ_sD, gL_sI, gL_sR, gL_sA, gL_sQ, gL_sD]; first | done | assumption | with_reducible rfl) | rfl) ?_
          refine r_aload_n (i := 3) dX2_copy_117 rfl rfl ?_
          refine r_callV (As := []) (mc' := 4) (ms' := 27) dX2_copy_118 k_X2_73 rfl (by first | assumption | (simp only [kd_sI, kd_sR, kd_sA, kd_sQ, kd_sL, kd_sD, ln_sI, ln_sR, ln_sA, ln_sQ, ln_sL, ln_sD, gI_sR, gI_sA, gI_sQ, gI_sL, gI_sD, gR_sI, gR_sA, gR_sQ, gR_sL, gR_sD, gA_sI, gA_sR, gA_sQ, gA_sL, gA_sD, gQ_sI, gQ_sR, gQ_sA, gQ_sL, gQ_sD, gL_sI, gL_sR, gL_sA, gL_sQ, gL_sD]; assumption) | simp [kd_sI, kd_sR, kd_sA, kd_sQ, kd_sL, kd_sD, ln_sI, ln_sR, ln_sA, ln_sQ, ln_sL, ln_sD, gI_sR, gI_sA, gI_sQ, gI_sL, gI_sD, gR_sI, gR_sA, gR_sQ, gR_sL, gR_sD, gA_sI, gA_sR, gA_sQ, gA_sL, gA_sD, gQ_sI, gQ_sR, gQ_sA, gQ_sL, gQ_sD, gL_sI, gL_sR, gL_sA, gL_sQ, gL_sD, kd_nO, kd_nA, *]) (T := TX5) (N := 7) rfl (by first | assumption | omega) (by first | assumption | omega) (by first | assumption | omega) (Nat.le_of_ble_eq_true rfl) ?_
          refine c_cableCopy (by omega) hO1 (fun H4 a' r' f' hK4 ha' hr' hf' hT4 => ?_)
          refine AW.st0 (fun z4 => ?_)
          have sc : Stq G (fun _ => False) H3 O2 H4 (rlb O2 H3 (8 * t' + 4)) := Stq.rl _ hK4 z4
          have s4 := s3.tr sc
          have hI4 := itS hI3 hLn sc (fun h => h) (fun h => h)
          have hX4 := hCa.ks s4 (fun _ _ h => h.elim)
          have hLn4 : kd H4 A.ca ≠ 0 := by rw [hX4.1.1]; decide
          obtain ⟨g1, g2, g3, g4, g5⟩ := h3
          obtain ⟨e3, ca3, rl3, re3, st3, x3⟩ := g4
          have x4 := x3.ks sc (fun _ _ h => h.elim)
          have kr4 := x4.1.1
          have f1 := g1.ks sc (fun _ _ h => h.elim)
          have f2 := g2.ks sc (fun _ _ h => h.elim)
          have f3 := g3.ks sc (fun _ _ h => h.elim)
          have f5 := g5.ks sc (fun _ _ h => h.elim)
          obtain ⟨⟨r1, r8, r9, r10, r11, r12, r13, r14, r15⟩, rO⟩ := f1
          show AW mX2_copy G d Qr Qx _ _ H4 121 _ _
          refine r_callV (As := [_]) (mc' := 1) (ms' := 22) dX2_copy_121 k_X2_68 rfl (by first | assumption | (simp only [kd_sI, kd_sR, kd_sA, kd_sQ, kd_sL, kd_sD, ln_sI, ln_sR, ln_sA, ln_sQ, ln_sL, ln_sD, gI_sR, gI_sA, gI_sQ, gI_sL, gI_sD, gR_sI, gR_sA, gR_sQ, gR_sL, gR_sD, gA_sI, gA_sR, gA_sQ, gA_sL, gA_sD, gQ_sI, gQ_sR, gQ_sA, gQ_sL, gQ_sD, gL_sI, gL_sR, gL_sA, gL_sQ, gL_sD]; assumption) | simp [kd_sI, kd_sR, kd_sA, kd_sQ, kd_sL, kd_sD, ln_sI, ln_sR, ln_sA, ln_sQ, ln_sL, ln_sD, gI_sR, gI_sA, gI_sQ, gI_sL, gI_sD, gR_sI, gR_sA, gR_sQ, gR_sL, gR_sD, gA_sI, gA_sR, gA_sQ, gA_sL, gA_sD, gQ_sI, gQ_sR, gQ_sA, gQ_sL, gQ_sD, gL_sI, gL_sR, gL_sA, gL_sQ, gL_sD, kd_nO, kd_nA, *]) (T := TJ2) (N := 3) rfl (by first | assumption | omega) (by first | assumption | omega) (by first | assumption | omega) (Nat.le_of_ble_eq_true rfl) ?_
          refine s_add (by omega) x4.1 (by omega) (Or.inl ⟨by rw [hT4.1.1]; decide, by rw [hT4.1.1]; decide⟩) (fun H5 e5 hK5 he5 hL5 => ?_)
          refine AW.st0 (fun z5 => ?_)
          have hne4 : ∀ {L0 n0 e0 : Nat} {xs0 : Nat → Nat}, LsO G H3 L0 n0 xs0 e0 → kd H4 f' ≠ 0 → ¬ e0 = f' := fun hL0 k e => hf'.elim (fun e1 => absurd z4 (by rw [← e1]; exact k)) (fun e1 => hL0.2.2.2.2.elim (fun q => absurd z4 (by rw [← q.1, e]; exact k)) (fun q => absurd q.1 (by rw [e, e1]; decide)))
          obtain ⟨s45, x5⟩ := x4.add z4 (by omega) hK5 he5 hL5 z5 hT4 (rlb_f ha') ⟨rlb_f hr', fun k => hf'.elim (fun e => absurd z4 (by rw [← e]; exact k)) (fun e => rlb_f e)⟩ (fun j hj => by rw [rlb_n (by rw [(hO1.2.2.2.2 j hj).1]; decide)]; exact hO4 j hj) (by omega) (fun j hj => ⟨fun e => absurd ((x3.2.2.2.1 j hj).1.1.1) (by rw [e, ha']; decide), fun e => absurd ((x3.2.2.2.1 j hj).1.2.2.2.1.1) (by rw [e, hr']; decide), fun k e => hne4 (x3.2.2.2.1 j hj).1.2.2.2.1 k e⟩) (fun e => absurd x3.1.1 (by rw [← e, hr']; decide)) (fun k e => hne4 x3.1 k e.symm)
          have hit4 : ¬ (rlb O2 H3 (8 * t' + 4) it = 8 * t' + 4) := by rw [hI4.2.1]; omega
          have hL4 : ¬ (rlb O2 H3 (8 * t' + 4) A.ca = 8 * t' + 4) := fun e => old s4 4 A.ca (by rw [hCa.1.1]; decide) e
          show AW mX2_copy G d Qr Qx _ _ H5 124 _ _
          refine r_istore dX2_copy_124 (Nat.le_of_ble_eq_true rfl) (by simp only [lset]; rfl) ?_
          refine r_goto (tgt := 94) dX2_copy_126 (by decide) ?_
          refine ih (i + 1) _ _ H5 _ _ _ (by omega) (by omega) (by omega) (s4.tr2 s45 (fun a ha e => old s4 4 a ha e)) ⟨(PlF.ks ⟨⟨r1, r8, r9, r10, r11, r12, r13, r14, r15⟩, rO⟩ s45 (fun a _ e => by omega)), (f2.ks s45 (fun a _ e => by exact ⟨by omega, by omega, fun k => by omega⟩)), (f3.ks s45 (fun a _ e => by omega)), ⟨_, _, _, _, _, x5⟩, (f5.ks s45 (fun a _ e => by omega))⟩ (itS hI4 hLn4 s45 hit4 hL4)
    exact loop (nat g 101) 0 _ _ H2 _ _ _ (by omega) (by omega) (by omega) (s1.tr sI2) (h1.ks sI2 (fun _ _ h => h.elim)) ⟨hI2, rlb_f hit, s1.1.fr hit⟩
  have ph2 : ∀ (rc rs : Nat) (H2 : AH) (O2 : Nat → Nat) (q : Nat) (B : PA) (l2 l3 l4 : Option AV), 143 ≤ rc → 1306 ≤ rs → kd H q = 0 → Stq G (fun _ => False) H O H2 O2 → NP G H2 O2 t' q B (nat g 3) 0 0 0 g (nI 20) (nI 2) 0 → AW mX2_copy G d Qr Qx rc rs H2 43 [some (vR (some p)), some (vR (some q)), l2, l3, l4] [] := by
    intro rc rs H1 O1 q B l2 l3 l4 hrc hrs hq s1 h1
    obtain ⟨⟨p1, p8, p9, p10, p11, p12, p13, p14, p15⟩, pO⟩ := hPs s1
    have hX1 := (hTr.ks s1 (fun _ _ h => h.elim))
    have kr := hX1.1.1
    have hnb := hX1.2.1
    refine r_aload_n (i := 0) dX2_copy_43 rfl rfl ?_
    refine r_getR dX2_copy_44 fR_X2_25 (by first | assumption | (simp only [kd_sI, kd_sR, kd_sA, kd_sQ, kd_sL, kd_sD, ln_sI, ln_sR, ln_sA, ln_sQ, ln_sL, ln_sD, gI_sR, gI_sA, gI_sQ, gI_sL, gI_sD, gR_sI, gR_sA, gR_sQ, gR_sL, gR_sD, gA_sI, gA_sR, gA_sQ, gA_sL, gA_sD, gQ_sI, gQ_sR, gQ_sA, gQ_sL, gQ_sD, gL_sI, gL_sR, gL_sA, gL_sQ, gL_sD]; assumption) | simp [kd_sI, kd_sR, kd_sA, kd_sQ, kd_sL, kd_sD, ln_sI, ln_sR, ln_sA, ln_sQ, ln_sL, ln_sD, gI_sR, gI_sA, gI_sQ, gI_sL, gI_sD, gR_sI, gR_sA, gR_sQ, gR_sL, gR_sD, gA_sI, gA_sR, gA_sQ, gA_sL, gA_sD, gQ_sI, gQ_sR, gQ_sA, gQ_sL, gQ_sD, gL_sI, gL_sR, gL_sA, gL_sQ, gL_sD, kd_nO, kd_nA, *]) (by first | assumption | exact gI_sIs | exact gR_sRs | with_reducible rfl | (simp only [kd_sI, kd_sR, kd_sA, kd_sQ, kd_sL, kd_sD, ln_sI, ln_sR, ln_sA, ln_sQ, ln_sL, ln_sD, gI_sR, gI_sA, gI_sQ, gI_sL, gI_sD, gR_sI, gR_sA, gR_sQ, gR_sL, gR_sD, gA_sI, gA_sR, gA_sQ, gA_sL, gA_sD, gQ_sI, gQ_sR, gQ_sA, gQ_sL, gQ_sD, gL_sI, gL_sR, gL_sA, gL_sQ, gL_sD]; first | done | assumption | with_reducible rfl) | rfl) ?_
    refine r_callV (As := []) (mc' := 1) (ms' := 4) dX2_copy_47 k_X2_42 rfl (by first | assumption | (simp only [kd_sI, kd_sR, kd_sA, kd_sQ, kd_sL, kd_sD, ln_sI, ln_sR, ln_sA, ln_sQ, ln_sL, ln_sD, gI_sR, gI_sA, gI_sQ, gI_sL, gI_sD, gR_sI, gR_sA, gR_sQ, gR_sL, gR_sD, gA_sI, gA_sR, gA_sQ, gA_sL, gA_sD, gQ_sI, gQ_sR, gQ_sA, gQ_sL, gQ_sD, gL_sI, gL_sR, gL_sA, gL_sQ, gL_sD]; assumption) | simp [kd_sI, kd_sR, kd_sA, kd_sQ, kd_sL, kd_sD, ln_sI, ln_sR, ln_sA, ln_sQ, ln_sL, ln_sD, gI_sR, gI_sA, gI_sQ, gI_sL, gI_sD, gR_sI, gR_sA, gR_sQ, gR_sL, gR_sD, gA_sI, gA_sR, gA_sQ, gA_sL, gA_sD, gQ_sI, gQ_sR, gQ_sA, gQ_sL, gQ_sD, gL_sI, gL_sR, gL_sA, gL_sQ, gL_sD, kd_nO, kd_nA, *]) (T := TJ2) (N := 3) rfl (by first | assumption | omega) (by first | assumption | omega) (by first | assumption | omega) (Nat.le_of_ble_eq_true rfl) ?_
    refine s_iterator (by omega) kr (fun H2 it hit hK2 hI2 => ?_)
    refine AW.st0 (fun z2 => ?_)
    have sI2 : Stq G (fun _ => False) H1 O1 H2 (rlb O1 H1 7) := Stq.rl 7 hK2 z2
    show AW mX2_copy G d Qr Qx _ _ H2 50 _ _
    refine r_astore_n (i := 2) dX2_copy_50 rfl (Nat.le_of_ble_eq_true rfl) (by simp only [lset]; rfl) ?_
    have loop : ∀ (k i rc rs : Nat) (H2 : AH) (O2 : Nat → Nat) (l3 l4 : Option AV), i + k = nat g 40 → 82 + 5 * k ≤ rc → 846 + 38 * k ≤ rs → Stq G (fun _ => False) H O H2 O2 → NP G H2 O2 t' q B (nat g 3) i 0 0 g (nI 20) (nI 2) 0 → (ItS H2 it A.tr i ∧ O2 it = 7 ∧ kd H it = 0) → AW mX2_copy G d Qr Qx rc rs H2 51 [some (vR (some p)), some (vR (some q)), some (vR (some it)), l3, l4] [] := by
      intro k
      induction k with
      | zero =>
        intro i rc rs H2 O2 l3 l4 hi hrc hrs s2 h2 hI
        have hX := hTr.ks s2 (fun _ _ h => h.elim)
        have ki := hI.1.1
        refine r_aload_n (i := 2) dX2_copy_51 rfl rfl ?_
        refine r_callF (As := []) (mc' := 0) (ms' := 0) dX2_copy_52 k_X2_46_J14 rfl (by first | assumption | (simp only [kd_sI, kd_sR, kd_sA, kd_sQ, kd_sL, kd_sD, ln_sI, ln_sR, ln_sA, ln_sQ, ln_sL, ln_sD, gI_sR, gI_sA, gI_sQ, gI_sL, gI_sD, gR_sI, gR_sA, gR_sQ, gR_sL, gR_sD, gA_sI, gA_sR, gA_sQ, gA_sL, gA_sD, gQ_sI, gQ_sR, gQ_sA, gQ_sL, gQ_sD, gL_sI, gL_sR, gL_sA, gL_sQ, gL_sD]; assumption) | simp [kd_sI, kd_sR, kd_sA, kd_sQ, kd_sL, kd_sD, ln_sI, ln_sR, ln_sA, ln_sQ, ln_sL, ln_sD, gI_sR, gI_sA, gI_sQ, gI_sL, gI_sD, gR_sI, gR_sA, gR_sQ, gR_sL, gR_sD, gA_sI, gA_sR, gA_sQ, gA_sL, gA_sD, gQ_sI, gQ_sR, gQ_sA, gQ_sL, gQ_sD, gL_sI, gL_sR, gL_sA, gL_sQ, gL_sD, kd_nO, kd_nA, *]) (T := TJ14) (N := 4) rfl (by first | assumption | omega) (by first | assumption | omega) (by first | assumption | omega) (Nat.le_of_ble_eq_true rfl) ?_
        refine s_hasNext hI.1 hX.1.1 hX.1.2.1 (by omega) (by omega) ?_
        rw [if_pos (by omega)]
        have hin : i = nat g 40 := by omega
        rw [hin] at h2
        refine r_if_eq (tgt := 86) dX2_copy_57 (by decide) (fun h57 => ?_) (fun h57 => ?_)
        · exact ph3 _ _ H2 O2 q B _ _ _ (by omega) (by omega) hq s2 h2
        · exact absurd rfl h57
      | succ k ih =>
        intro i rc rs H2 O2 l3 l4 hi hrc hrs s2 h2 hI
        have hX := hTr.ks s2 (fun _ _ h => h.elim)
        have ki := hI.1.1
        refine r_aload_n (i := 2) dX2_copy_51 rfl rfl ?_
        refine r_callF (As := []) (mc' := 0) (ms' := 0) dX2_copy_52 k_X2_46_J14 rfl (by first | assumption | (simp only [kd_sI, kd_sR, kd_sA, kd_sQ, kd_sL, kd_sD, ln_sI, ln_sR, ln_sA, ln_sQ, ln_sL, ln_sD, gI_sR, gI_sA, gI_sQ, gI_sL, gI_sD, gR_sI, gR_sA, gR_sQ, gR_sL, gR_sD, gA_sI, gA_sR, gA_sQ, gA_sL, gA_sD, gQ_sI, gQ_sR, gQ_sA, gQ_sL, gQ_sD, gL_sI, gL_sR, gL_sA, gL_sQ, gL_sD]; assumption) | simp [kd_sI, kd_sR, kd_sA, kd_sQ, kd_sL, kd_sD, ln_sI, ln_sR, ln_sA, ln_sQ, ln_sL, ln_sD, gI_sR, gI_sA, gI_sQ, gI_sL, gI_sD, gR_sI, gR_sA, gR_sQ, gR_sL, gR_sD, gA_sI, gA_sR, gA_sQ, gA_sL, gA_sD, gQ_sI, gQ_sR, gQ_sA, gQ_sL, gQ_sD, gL_sI, gL_sR, gL_sA, gL_sQ, gL_sD, kd_nO, kd_nA, *]) (T := TJ14) (N := 4) rfl (by first | assumption | omega) (by first | assumption | omega) (by first | assumption | omega) (Nat.le_of_ble_eq_true rfl) ?_
        refine s_hasNext hI.1 hX.1.1 hX.1.2.1 (by omega) (by omega) ?_
        rw [if_neg (by omega)]
        refine r_if_eq (tgt := 86) dX2_copy_57 (by decide) (fun h57 => ?_) (fun h57 => ?_)
        · exact absurd h57 (by decide)
        · refine r_aload_n (i := 2) dX2_copy_60 rfl rfl ?_
          refine r_callF (As := []) (mc' := 0) (ms' := 0) dX2_copy_61 k_X2_52_J14 rfl (by first | assumption | (simp only [kd_sI, kd_sR, kd_sA, kd_sQ, kd_sL, kd_sD, ln_sI, ln_sR, ln_sA, ln_sQ, ln_sL, ln_sD, gI_sR, gI_sA, gI_sQ, gI_sL, gI_sD, gR_sI, gR_sA, gR_sQ, gR_sL, gR_sD, gA_sI, gA_sR, gA_sQ, gA_sL, gA_sD, gQ_sI, gQ_sR, gQ_sA, gQ_sL, gQ_sD, gL_sI, gL_sR, gL_sA, gL_sQ, gL_sD]; assumption) | simp [kd_sI, kd_sR, kd_sA, kd_sQ, kd_sL, kd_sD, ln_sI, ln_sR, ln_sA, ln_sQ, ln_sL, ln_sD, gI_sR, gI_sA, gI_sQ, gI_sL, gI_sD, gR_sI, gR_sA, gR_sQ, gR_sL, gR_sD, gA_sI, gA_sR, gA_sQ, gA_sL, gA_sD, gQ_sI, gQ_sR, gQ_sA, gQ_sL, gQ_sD, gL_sI, gL_sR, gL_sA, gL_sQ, gL_sD, kd_nO, kd_nA, *]) (T := TJ14) (N := 4) rfl (by first | assumption | omega) (by first | assumption | omega) (by first | assumption | omega) (Nat.le_of_ble_eq_true rfl) ?_
          refine s_next (by omega) hI.1 hX.1 (by omega) (by omega) (fun H3 hK3 hI3 => ?_)
          refine AW.st0 (fun z3 => ?_)
          obtain ⟨s3, h3⟩ := nxt s2 h2 hI hK3 z3
          have hI3 : ItS H3 it A.tr (i + 1) ∧ O2 it = 7 ∧ kd H it = 0 := ⟨hI3, hI.2⟩
          have hX3 := hTr.ks s3 (fun _ _ h => h.elim)
          have hLn : kd H3 A.tr ≠ 0 := by rw [hX3.1.1]; decide
          have hitn : kd H3 it ≠ 0 := by rw [hI3.1.1]; decide
          show AW mX2_copy G d Qr Qx _ _ H3 66 _ _
          obtain ⟨⟨q1, q8, q9, q10, q11, q12, q13, q14, q15⟩, qO⟩ := h3.1
          obtain ⟨hO1, -⟩ := hX3.2.2.2.1 i (by omega)
          have hv4 : tvN (tvOf g i) < 4 := hO1.2.2.2.2.2.2.2.2.2.2.2.2.2.2.2.1
          have kt := hO1.1
          refine r_cast dX2_copy_66 (by first | assumption | (simp only [kd_sI, kd_sR, kd_sA, kd_sQ, kd_sL, kd_sD, ln_sI, ln_sR, ln_sA, ln_sQ, ln_sL, ln_sD, gI_sR, gI_sA, gI_sQ, gI_sL, gI_sD, gR_sI, gR_sA, gR_sQ, gR_sL, gR_sD, gA_sI, gA_sR, gA_sQ, gA_sL, gA_sD, gQ_sI, gQ_sR, gQ_sA, gQ_sL, gQ_sD, gL_sI, gL_sR, gL_sA, gL_sQ, gL_sD]; assumption) | simp [kd_sI, kd_sR, kd_sA, kd_sQ, kd_sL, kd_sD, ln_sI, ln_sR, ln_sA, ln_sQ, ln_sL, ln_sD, gI_sR, gI_sA, gI_sQ, gI_sL, gI_sD, gR_sI, gR_sA, gR_sQ, gR_sL, gR_sD, gA_sI, gA_sR, gA_sQ, gA_sL, gA_sD, gQ_sI, gQ_sR, gQ_sA, gQ_sL, gQ_sD, gL_sI, gL_sR, gL_sA, gL_sQ, gL_sD, kd_nO, kd_nA, *]) (T := TX4) (N := 7) rfl q1233 (Or.inl rfl) ?_
          refine r_astore_n (i := 3) dX2_copy_69 rfl (Nat.le_of_ble_eq_true rfl) (by simp only [lset]; rfl) ?_
          refine r_aload_n (i := 1) dX2_copy_70 rfl rfl ?_
          refine r_getR dX2_copy_71 fR_X2_25 (by first | assumption | (simp only [kd_sI, kd_sR, kd_sA, kd_sQ, kd_sL, kd_sD, ln_sI, ln_sR, ln_sA, ln_sQ, ln_sL, ln_sD, gI_sR, gI_sA, gI_sQ, gI_sL, gI_sD, gR_sI, gR_sA, gR_sQ, gR_sL, gR_sD, gA_sI, gA_sR, gA_sQ, gA_sL, gA_sD, gQ_sI, gQ_sR, gQ_sA, gQ_sL, gQ_sD, gL_sI, gL_sR, gL_sA, gL_sQ, gL_sD]; assumption) | simp [kd_sI, kd_sR, kd_sA, kd_sQ, kd_sL, kd_sD, ln_sI, ln_sR, ln_sA, ln_sQ, ln_sL, ln_sD, gI_sR, gI_sA, gI_sQ, gI_sL, gI_sD, gR_sI, gR_sA, gR_sQ, gR_sL, gR_sD, gA_sI, gA_sR, gA_sQ, gA_sL, gA_sD, gQ_sI, gQ_sR, gQ_sA, gQ_sL, gQ_sD, gL_sI, gL_sR, gL_sA, gL_sQ, gL_sD, kd_nO, kd_nA, *]) (by first | assumption | exact gI_sIs | exact gR_sRs | with_reducible rfl | (simp only [kd_sI, kd_sR, kd_sA, kd_sQ, kd_sL, kd_sD, ln_sI, ln_sR, ln_sA, ln_sQ, ln_sL, ln_sD, gI_sR, gI_sA, gI_sQ, gI_sL, gI_sD, gR_sI, gR_sA, gR_sQ, gR_sL, gR_sD, gA_sI, gA_sR, gA_sQ, gA_sL, gA_sD, gQ_sI, gQ_sR, gQ_sA, gQ_sL, gQ_sD, gL_sI, gL_sR, gL_sA, gL_sQ, gL_sD]; first | done | assumption | with_reducible rfl) | rfl) ?_
          refine r_aload_n (i := 3) dX2_copy_74 rfl rfl ?_
          refine r_callV (As := []) (mc' := 4) (ms' := (7 + 3 * tvN (tvOf g i))) dX2_copy_75 k_X2_64 rfl (by first | assumption | (simp only [kd_sI, kd_sR, kd_sA, kd_sQ, kd_sL, kd_sD, ln_sI, ln_sR, ln_sA, ln_sQ, ln_sL, ln_sD, gI_sR, gI_sA, gI_sQ, gI_sL, gI_sD, gR_sI, gR_sA, gR_sQ, gR_sL, gR_sD, gA_sI, gA_sR, gA_sQ, gA_sL, gA_sD, gQ_sI, gQ_sR, gQ_sA, gQ_sL, gQ_sD, gL_sI, gL_sR, gL_sA, gL_sQ, gL_sD]; assumption) | simp [kd_sI, kd_sR, kd_sA, kd_sQ, kd_sL, kd_sD, ln_sI, ln_sR, ln_sA, ln_sQ, ln_sL, ln_sD, gI_sR, gI_sA, gI_sQ, gI_sL, gI_sD, gR_sI, gR_sA, gR_sQ, gR_sL, gR_sD, gA_sI, gA_sR, gA_sQ, gA_sL, gA_sD, gQ_sI, gQ_sR, gQ_sA, gQ_sL, gQ_sD, gL_sI, gL_sR, gL_sA, gL_sQ, gL_sD, kd_nO, kd_nA, *]) (T := TX4) (N := 7) rfl (by first | assumption | omega) (by first | assumption | omega) (by first | assumption | omega) (Nat.le_of_ble_eq_true rfl) ?_
          refine c_trayCopy (by omega) hO1 (fun H4 a' c' f' u' hK4 ha' hc' hf' hu' hT4 => ?_)
          refine AW.st0 (fun z4 => ?_)
          have sc : Stq G (fun _ => False) H3 O2 H4 (rlb O2 H3 (8 * t' + 3)) := Stq.rl _ hK4 z4
          have s4 := s3.tr sc
          have hI4 := itS hI3 hLn sc (fun h => h) (fun h => h)
          have hX4 := hTr.ks s4 (fun _ _ h => h.elim)
          have hLn4 : kd H4 A.tr ≠ 0 := by rw [hX4.1.1]; decide
          obtain ⟨g1, g2, g3, g4, g5⟩ := h3
          obtain ⟨e3, tr3, tc3, tf3, tu3, x3⟩ := g3
          have x4 := x3.ks sc (fun _ _ h => h.elim)
          have kr4 := x4.1.1
          have f1 := g1.ks sc (fun _ _ h => h.elim)
          have f2 := g2.ks sc (fun _ _ h => h.elim)
          have f4 := g4.ks sc (fun _ _ h => h.elim)
          have f5 := g5.ks sc (fun _ _ h => h.elim)
          obtain ⟨⟨r1, r8, r9, r10, r11, r12, r13, r14, r15⟩, rO⟩ := f1
          show AW mX2_copy G d Qr Qx _ _ H4 78 _ _
          refine r_callV (As := [_]) (mc' := 1) (ms' := 22) dX2_copy_78 k_X2_68 rfl (by first | assumption | (simp only [kd_sI, kd_sR, kd_sA, kd_sQ, kd_sL, kd_sD, ln_sI, ln_sR, ln_sA, ln_sQ, ln_sL, ln_sD, gI_sR, gI_sA, gI_sQ, gI_sL, gI_sD, gR_sI, gR_sA, gR_sQ, gR_sL, gR_sD, gA_sI, gA_sR, gA_sQ, gA_sL, gA_sD, gQ_sI, gQ_sR, gQ_sA, gQ_sL, gQ_sD, gL_sI, gL_sR, gL_sA, gL_sQ, gL_sD]; assumption) | simp [kd_sI, kd_sR, kd_sA, kd_sQ, kd_sL, kd_sD, ln_sI, ln_sR, ln_sA, ln_sQ, ln_sL, ln_sD, gI_sR, gI_sA, gI_sQ, gI_sL, gI_sD, gR_sI, gR_sA, gR_sQ, gR_sL, gR_sD, gA_sI, gA_sR, gA_sQ, gA_sL, gA_sD, gQ_sI, gQ_sR, gQ_sA, gQ_sL, gQ_sD, gL_sI, gL_sR, gL_sA, gL_sQ, gL_sD, kd_nO, kd_nA, *]) (T := TJ2) (N := 3) rfl (by first | assumption | omega) (by first | assumption | omega) (by first | assumption | omega) (Nat.le_of_ble_eq_true rfl) ?_
          refine s_add (by omega) x4.1 (by omega) (Or.inl ⟨by rw [hT4.1]; decide, by rw [hT4.1]; decide⟩) (fun H5 e5 hK5 he5 hL5 => ?_)
          refine AW.st0 (fun z5 => ?_)
          obtain ⟨s45, x5⟩ := x4.add z4 (by omega) hK5 he5 hL5 z5 hT4 (rlb_f ha') (rlb_f hc') (rlb_f hf') (rlb_f hu') (fun j hj => ⟨fun e => (x3.2.2.2.1 j hj).1.nz.2.1 (by rw [e]; exact hc'), fun e => (x3.2.2.2.1 j hj).1.nz.2.2.1 (by rw [e]; exact hf'), fun e => (x3.2.2.2.1 j hj).1.nz.2.2.2 (by rw [e]; exact hu')⟩)
          have hit4 : ¬ (rlb O2 H3 (8 * t' + 3) it = 8 * t' + 3) := by rw [hI4.2.1]; omega
          have hL4 : ¬ (rlb O2 H3 (8 * t' + 3) A.tr = 8 * t' + 3) := fun e => old s4 3 A.tr (by rw [hTr.1.1]; decide) e
          show AW mX2_copy G d Qr Qx _ _ H5 81 _ _
          refine r_istore dX2_copy_81 (Nat.le_of_ble_eq_true rfl) (by simp only [lset]; rfl) ?_
          refine r_goto (tgt := 51) dX2_copy_83 (by decide) ?_
          refine ih (i + 1) _ _ H5 _ _ _ (by omega) (by omega) (by omega) (s4.tr2 s45 (fun a ha e => old s4 3 a ha e)) ⟨(PlF.ks ⟨⟨r1, r8, r9, r10, r11, r12, r13, r14, r15⟩, rO⟩ s45 (fun a _ e => by omega)), (f2.ks s45 (fun a _ e => by exact ⟨by omega, by omega, fun k => by omega⟩)), ⟨_, _, _, _, _, x5⟩, (f4.ks s45 (fun a _ e => by exact ⟨by omega, by omega⟩)), (f5.ks s45 (fun a _ e => by omega))⟩ (itS hI4 hLn4 s45 hit4 hL4)
    exact loop (nat g 40) 0 _ _ H2 _ _ _ (by omega) (by omega) (by omega) (s1.tr sI2) (h1.ks sI2 (fun _ _ h => h.elim)) ⟨hI2, rlb_f hit, s1.1.fr hit⟩
  have ph1 : ∀ (rc rs : Nat) (H2 : AH) (O2 : Nat → Nat) (q : Nat) (B : PA) (l2 l3 l4 : Option AV), 162 ≤ rc → 1562 ≤ rs → kd H q = 0 → Stq G (fun _ => False) H O H2 O2 → NP G H2 O2 t' q B 0 0 0 0 g (nI 20) (nI 2) 0 → AW mX2_copy G d Qr Qx rc rs H2 8 [some (vR (some p)), some (vR (some q)), l2, l3, l4] [] := by
    intro rc rs H1 O1 q B l2 l3 l4 hrc hrs hq s1 h1
    obtain ⟨⟨p1, p8, p9, p10, p11, p12, p13, p14, p15⟩, pO⟩ := hPs s1
    have hX1 := (hTy.ks s1 (fun _ _ h => h.elim))
    have kr := hX1.1.1
    have hnb := hX1.2.1
    refine r_aload_n (i := 0) dX2_copy_8 rfl rfl ?_
    refine r_getR dX2_copy_9 fR_X2_12 (by first | assumption | (simp only [kd_sI, kd_sR, kd_sA, kd_sQ, kd_sL, kd_sD, ln_sI, ln_sR, ln_sA, ln_sQ, ln_sL, ln_sD, gI_sR, gI_sA, gI_sQ, gI_sL, gI_sD, gR_sI, gR_sA, gR_sQ, gR_sL, gR_sD, gA_sI, gA_sR, gA_sQ, gA_sL, gA_sD, gQ_sI, gQ_sR, gQ_sA, gQ_sL, gQ_sD, gL_sI, gL_sR, gL_sA, gL_sQ, gL_sD]; assumption) | simp [kd_sI, kd_sR, kd_sA, kd_sQ, kd_sL, kd_sD, ln_sI, ln_sR, ln_sA, ln_sQ, ln_sL, ln_sD, gI_sR, gI_sA, gI_sQ, gI_sL, gI_sD, gR_sI, gR_sA, gR_sQ, gR_sL, gR_sD, gA_sI, gA_sR, gA_sQ, gA_sL, gA_sD, gQ_sI, gQ_sR, gQ_sA, gQ_sL, gQ_sD, gL_sI, gL_sR, gL_sA, gL_sQ, gL_sD, kd_nO, kd_nA, *]) (by first | assumption | exact gI_sIs | exact gR_sRs | with_reducible rfl | (simp only [kd_sI, kd_sR, kd_sA, kd_sQ, kd_sL, kd_sD, ln_sI, ln_sR, ln_sA, ln_sQ, ln_sL, ln_sD, gI_sR, gI_sA, gI_sQ, gI_sL, gI_sD, gR_sI, gR_sA, gR_sQ, gR_sL, gR_sD, gA_sI, gA_sR, gA_sQ, gA_sL, gA_sD, gQ_sI, gQ_sR, gQ_sA, gQ_sL, gQ_sD, gL_sI, gL_sR, gL_sA, gL_sQ, gL_sD]; first | done | assumption | with_reducible rfl) | rfl) ?_
    refine r_callV (As := []) (mc' := 1) (ms' := 4) dX2_copy_12 k_X2_42 rfl (by first | assumption | (simp only [kd_sI, kd_sR, kd_sA, kd_sQ, kd_sL, kd_sD, ln_sI, ln_sR, ln_sA, ln_sQ, ln_sL, ln_sD, gI_sR, gI_sA, gI_sQ, gI_sL, gI_sD, gR_sI, gR_sA, gR_sQ, gR_sL, gR_sD, gA_sI, gA_sR, gA_sQ, gA_sL, gA_sD, gQ_sI, gQ_sR, gQ_sA, gQ_sL, gQ_sD, gL_sI, gL_sR, gL_sA, gL_sQ, gL_sD]; assumption) | simp [kd_sI, kd_sR, kd_sA, kd_sQ, kd_sL, kd_sD, ln_sI, ln_sR, ln_sA, ln_sQ, ln_sL, ln_sD, gI_sR, gI_sA, gI_sQ, gI_sL, gI_sD, gR_sI, gR_sA, gR_sQ, gR_sL, gR_sD, gA_sI, gA_sR, gA_sQ, gA_sL, gA_sD, gQ_sI, gQ_sR, gQ_sA, gQ_sL, gQ_sD, gL_sI, gL_sR, gL_sA, gL_sQ, gL_sD, kd_nO, kd_nA, *]) (T := TJ2) (N := 3) rfl (by first | assumption | omega) (by first | assumption | omega) (by first | assumption | omega) (Nat.le_of_ble_eq_true rfl) ?_
    refine s_iterator (by omega) kr (fun H2 it hit hK2 hI2 => ?_)
    refine AW.st0 (fun z2 => ?_)
    have sI2 : Stq G (fun _ => False) H1 O1 H2 (rlb O1 H1 7) := Stq.rl 7 hK2 z2
    show AW mX2_copy G d Qr Qx _ _ H2 15 _ _
    refine r_astore_n (i := 2) dX2_copy_15 rfl (Nat.le_of_ble_eq_true rfl) (by simp only [lset]; rfl) ?_
    have loop : ∀ (k i rc rs : Nat) (H2 : AH) (O2 : Nat → Nat) (l3 l4 : Option AV), i + k = nat g 3 → 143 + 3 * k ≤ rc → 1306 + 42 * k ≤ rs → Stq G (fun _ => False) H O H2 O2 → NP G H2 O2 t' q B i 0 0 0 g (nI 20) (nI 2) 0 → (ItS H2 it A.ty i ∧ O2 it = 7 ∧ kd H it = 0) → AW mX2_copy G d Qr Qx rc rs H2 16 [some (vR (some p)), some (vR (some q)), some (vR (some it)), l3, l4] [] := by
      intro k
      induction k with
      | zero =>
        intro i rc rs H2 O2 l3 l4 hi hrc hrs s2 h2 hI
        have hX := hTy.ks s2 (fun _ _ h => h.elim)
        have ki := hI.1.1
        refine r_aload_n (i := 2) dX2_copy_16 rfl rfl ?_
        refine r_callF (As := []) (mc' := 0) (ms' := 0) dX2_copy_17 k_X2_46_J14 rfl (by first | assumption | (simp only [kd_sI, kd_sR, kd_sA, kd_sQ, kd_sL, kd_sD, ln_sI, ln_sR, ln_sA, ln_sQ, ln_sL, ln_sD, gI_sR, gI_sA, gI_sQ, gI_sL, gI_sD, gR_sI, gR_sA, gR_sQ, gR_sL, gR_sD, gA_sI, gA_sR, gA_sQ, gA_sL, gA_sD, gQ_sI, gQ_sR, gQ_sA, gQ_sL, gQ_sD, gL_sI, gL_sR, gL_sA, gL_sQ, gL_sD]; assumption) | simp [kd_sI, kd_sR, kd_sA, kd_sQ, kd_sL, kd_sD, ln_sI, ln_sR, ln_sA, ln_sQ, ln_sL, ln_sD, gI_sR, gI_sA, gI_sQ, gI_sL, gI_sD, gR_sI, gR_sA, gR_sQ, gR_sL, gR_sD, gA_sI, gA_sR, gA_sQ, gA_sL, gA_sD, gQ_sI, gQ_sR, gQ_sA, gQ_sL, gQ_sD, gL_sI, gL_sR, gL_sA, gL_sQ, gL_sD, kd_nO, kd_nA, *]) (T := TJ14) (N := 4) rfl (by first | assumption | omega) (by first | assumption | omega) (by first | assumption | omega) (Nat.le_of_ble_eq_true rfl) ?_
        refine s_hasNext hI.1 hX.1.1 hX.1.2.1 (by omega) (by omega) ?_
        rw [if_pos (by omega)]
        have hin : i = nat g 3 := by omega
        rw [hin] at h2
        refine r_if_eq (tgt := 43) dX2_copy_22 (by decide) (fun h22 => ?_) (fun h22 => ?_)
        · exact ph2 _ _ H2 O2 q B _ _ _ (by omega) (by omega) hq s2 h2
        · exact absurd rfl h22
      | succ k ih =>
        intro i rc rs H2 O2 l3 l4 hi hrc hrs s2 h2 hI
        have hX := hTy.ks s2 (fun _ _ h => h.elim)
        have ki := hI.1.1
        refine r_aload_n (i := 2) dX2_copy_16 rfl rfl ?_
        refine r_callF (As := []) (mc' := 0) (ms' := 0) dX2_copy_17 k_X2_46_J14 rfl (by first | assumption | (simp only [kd_sI, kd_sR, kd_sA, kd_sQ, kd_sL, kd_sD, ln_sI, ln_sR, ln_sA, ln_sQ, ln_sL, ln_sD, gI_sR, gI_sA, gI_sQ, gI_sL, gI_sD, gR_sI, gR_sA, gR_sQ, gR_sL, gR_sD, gA_sI, gA_sR, gA_sQ, gA_sL, gA_sD, gQ_sI, gQ_sR, gQ_sA, gQ_sL, gQ_sD, gL_sI, gL_sR, gL_sA, gL_sQ, gL_sD]; assumption) | simp [kd_sI, kd_sR, kd_sA, kd_sQ, kd_sL, kd_sD, ln_sI, ln_sR, ln_sA, ln_sQ, ln_sL, ln_sD, gI_sR, gI_sA, gI_sQ, gI_sL, gI_sD, gR_sI, gR_sA, gR_sQ, gR_sL, gR_sD, gA_sI, gA_sR, gA_sQ, gA_sL, gA_sD, gQ_sI, gQ_sR, gQ_sA, gQ_sL, gQ_sD, gL_sI, gL_sR, gL_sA, gL_sQ, gL_sD, kd_nO, kd_nA, *]) (T := TJ14) (N := 4) rfl (by first | assumption | omega) (by first | assumption | omega) (by first | assumption | omega) (Nat.le_of_ble_eq_true rfl) ?_
        refine s_hasNext hI.1 hX.1.1 hX.1.2.1 (by omega) (by omega) ?_
        rw [if_neg (by omega)]
        refine r_if_eq (tgt := 43) dX2_copy_22 (by decide) (fun h22 => ?_) (fun h22 => ?_)
        · exact absurd h22 (by decide)
        · refine r_aload_n (i := 2) dX2_copy_25 rfl rfl ?_
          refine r_callF (As := []) (mc' := 0) (ms' := 0) dX2_copy_26 k_X2_52_J14 rfl (by first | assumption | (simp only [kd_sI, kd_sR, kd_sA, kd_sQ, kd_sL, kd_sD, ln_sI, ln_sR, ln_sA, ln_sQ, ln_sL, ln_sD, gI_sR, gI_sA, gI_sQ, gI_sL, gI_sD, gR_sI, gR_sA, gR_sQ, gR_sL, gR_sD, gA_sI, gA_sR, gA_sQ, gA_sL, gA_sD, gQ_sI, gQ_sR, gQ_sA, gQ_sL, gQ_sD, gL_sI, gL_sR, gL_sA, gL_sQ, gL_sD]; assumption) | simp [kd_sI, kd_sR, kd_sA, kd_sQ, kd_sL, kd_sD, ln_sI, ln_sR, ln_sA, ln_sQ, ln_sL, ln_sD, gI_sR, gI_sA, gI_sQ, gI_sL, gI_sD, gR_sI, gR_sA, gR_sQ, gR_sL, gR_sD, gA_sI, gA_sR, gA_sQ, gA_sL, gA_sD, gQ_sI, gQ_sR, gQ_sA, gQ_sL, gQ_sD, gL_sI, gL_sR, gL_sA, gL_sQ, gL_sD, kd_nO, kd_nA, *]) (T := TJ14) (N := 4) rfl (by first | assumption | omega) (by first | assumption | omega) (by first | assumption | omega) (Nat.le_of_ble_eq_true rfl) ?_
          refine s_next (by omega) hI.1 hX.1 (by omega) (by omega) (fun H3 hK3 hI3 => ?_)
          refine AW.st0 (fun z3 => ?_)
          obtain ⟨s3, h3⟩ := nxt s2 h2 hI hK3 z3
          have hI3 : ItS H3 it A.ty (i + 1) ∧ O2 it = 7 ∧ kd H it = 0 := ⟨hI3, hI.2⟩
          have hX3 := hTy.ks s3 (fun _ _ h => h.elim)
          have hLn : kd H3 A.ty ≠ 0 := by rw [hX3.1.1]; decide
          have hitn : kd H3 it ≠ 0 := by rw [hI3.1.1]; decide
          show AW mX2_copy G d Qr Qx _ _ H3 31 _ _
          obtain ⟨g1, ⟨e3, ty3, nm3, nd3, g2⟩, g3, g4, g5⟩ := h3
          have hO := hX3.2.2.2.2.2 i (by omega)
          have kt := hO.1.1
          have kq := g1.1.1
          refine r_cast dX2_copy_31 (by first | assumption | (simp only [kd_sI, kd_sR, kd_sA, kd_sQ, kd_sL, kd_sD, ln_sI, ln_sR, ln_sA, ln_sQ, ln_sL, ln_sD, gI_sR, gI_sA, gI_sQ, gI_sL, gI_sD, gR_sI, gR_sA, gR_sQ, gR_sL, gR_sD, gA_sI, gA_sR, gA_sQ, gA_sL, gA_sD, gQ_sI, gQ_sR, gQ_sA, gQ_sL, gQ_sD, gL_sI, gL_sR, gL_sA, gL_sQ, gL_sD]; assumption) | simp [kd_sI, kd_sR, kd_sA, kd_sQ, kd_sL, kd_sD, ln_sI, ln_sR, ln_sA, ln_sQ, ln_sL, ln_sD, gI_sR, gI_sA, gI_sQ, gI_sL, gI_sD, gR_sI, gR_sA, gR_sQ, gR_sL, gR_sD, gA_sI, gA_sR, gA_sQ, gA_sL, gA_sD, gQ_sI, gQ_sR, gQ_sA, gQ_sL, gQ_sD, gL_sI, gL_sR, gL_sA, gL_sQ, gL_sD, kd_nO, kd_nA, *]) (T := TX19) (N := 3) rfl q1254 (Or.inl rfl) ?_
          refine r_astore_n (i := 3) dX2_copy_34 rfl (Nat.le_of_ble_eq_true rfl) (by simp only [lset]; rfl) ?_
          refine r_aload_n (i := 1) dX2_copy_35 rfl rfl ?_
          refine r_aload_n (i := 3) dX2_copy_36 rfl rfl ?_
          refine r_callV (As := [_]) (mc' := 3) (ms' := 42) dX2_copy_37 k_X2_58 rfl (by first | assumption | (simp only [kd_sI, kd_sR, kd_sA, kd_sQ, kd_sL, kd_sD, ln_sI, ln_sR, ln_sA, ln_sQ, ln_sL, ln_sD, gI_sR, gI_sA, gI_sQ, gI_sL, gI_sD, gR_sI, gR_sA, gR_sQ, gR_sL, gR_sD, gA_sI, gA_sR, gA_sQ, gA_sL, gA_sD, gQ_sI, gQ_sR, gQ_sA, gQ_sL, gQ_sD, gL_sI, gL_sR, gL_sA, gL_sQ, gL_sD]; assumption) | simp [kd_sI, kd_sR, kd_sA, kd_sQ, kd_sL, kd_sD, ln_sI, ln_sR, ln_sA, ln_sQ, ln_sL, ln_sD, gI_sR, gI_sA, gI_sQ, gI_sL, gI_sD, gR_sI, gR_sA, gR_sQ, gR_sL, gR_sD, gA_sI, gA_sR, gA_sQ, gA_sL, gA_sD, gQ_sI, gQ_sR, gQ_sA, gQ_sL, gQ_sD, gL_sI, gL_sR, gL_sA, gL_sQ, gL_sD, kd_nO, kd_nA, *]) (T := TX2) (N := 8) rfl (by first | assumption | omega) (by first | assumption | omega) (by first | assumption | omega) (Nat.le_of_ble_eq_true rfl) ?_
          refine c_planAdd (by omega) ht' g1 g2 (by omega) hO.pre (fun j hj => mtk_gy hY hj (by omega)) (fun H4 O4 e4 ty4 nm4 nd4 s34 x4 => ?_)
          have hSH : ∀ a, SH H3 (nm i) a → False := fun a q => hO.2.2.2.1 q.2
          have s34' : Stq G (fun b => O2 b = 8 * t' + 2) H3 O2 H4 O4 := s34.mono (fun a _ q => q.elim (fun h => h) (fun h => (hSH a h).elim))
          have hit4 : ¬ (O2 it = 8 * t' + 2) := by rw [hI3.2.1]; omega
          have hL4 : ¬ (O2 A.ty = 8 * t' + 2) := fun e => old s3 2 A.ty (by rw [hTy.1.1]; decide) e
          show AW mX2_copy G d Qr Qx _ _ H4 40 _ _
          refine r_goto (tgt := 16) dX2_copy_40 (by decide) ?_
          refine ih (i + 1) _ _ H4 O4 _ _ (by omega) (by omega) (by omega) (s3.tr2 s34' (fun a ha e => old s3 2 a ha e)) ⟨g1.ks s34' (fun a _ e => by omega), ⟨_, _, _, _, x4⟩, g3.ks s34' (fun a _ e => by omega), g4.ks s34' (fun a _ e => by exact ⟨by omega, by omega⟩), g5.ks s34' (fun a _ e => by omega)⟩ (itS hI3 hLn s34' hit4 hL4)
    exact loop (nat g 3) 0 _ _ H2 _ _ _ (by omega) (by omega) (by omega) (s1.tr sI2) (h1.ks sI2 (fun _ _ h => h.elim)) ⟨hI2, rlb_f hit, s1.1.fr hit⟩
  refine r_new dX2_copy_0 cT_X2 q1263 q150 q84 (by decide +kernel) (by first | assumption | omega) (by first | assumption | omega) (fun q0 hq0 => ?_)
  refine AW.name (fun H1 hH1 => ?_)
  have hK1 : Ks (fun _ => False) H H1 := by rw [hH1]; exact Ks.rf.nO hq0
  have kq : kd H1 q0 = 2 := by rw [hH1, kd_nO, if_pos rfl]
  have z15 : gI H1 15 q0 = 0 := by rw [hH1, gI_nO, if_pos rfl]
  refine AW.st0 (fun z1 => ?_)
  have s1 : Stq G (fun _ => False) H O H1 (rlb O H (8 * t' + 1)) := Stq.rl _ hK1 z1
  refine r_dup dX2_copy_3 rfl ?_
  refine r_callI (As := []) (mc' := 5) (ms' := 20) dX2_copy_4 k_X2_41 rfl (by first | assumption | omega) (by first | assumption | omega) (by first | assumption | omega) (Nat.le_of_ble_eq_true rfl) ?_
  refine c_planInit (O := rlb O H (8 * t' + 1)) (by omega) ht' kq z15 (rlb_f hq0) (fun H2 O2 s2 hN => ?_)
  obtain ⟨B, -, hN⟩ := hN
  obtain ⟨e1, e2, e3, e4⟩ := nat_g0
  rw [e1, e2, e3, e4] at hN
  have hN1 : NP G H2 O2 t' q0 B 0 0 0 0 g0 (nI 20) (nI 2) 0 := hN
  show AW mX2_copy G d Qr Qx _ _ H2 7 _ _
  refine r_astore_n (i := 1) dX2_copy_7 rfl (Nat.le_of_ble_eq_true rfl) (by simp only [lset]; rfl) ?_
  exact ph1 _ _ H2 O2 q0 B _ _ _ (by omega) (by omega) hq0 (s1.tr2 s2 (fun a ha e => by rw [e] at ha; exact ha hq0)) hN1.z
end
