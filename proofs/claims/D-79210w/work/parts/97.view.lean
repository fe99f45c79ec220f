set_option maxRecDepth 100000
/-! A PLAN IS READ -/
/-- a plan, without owners -/
def PW (G : Gl) (H : AH) (p : Nat) (A : PA) (g : Nat → Int32) (eT : Nat) (ty : Nat → Nat) (eR : Nat) (tr tc tf tu : Nat → Nat) (eC : Nat) (ca rl re : Nat → Nat) (st : Nat → Nat → Nat) (eD : Nat) (dr : Nat → Nat) : Prop := (kd H p = 2 ∧ gR H 8 p = some A.ty ∧ gR H 9 p = some A.M ∧ gR H 10 p = some A.tr ∧ gR H 11 p = some A.ca ∧ gR H 12 p = some A.dr ∧ gI H 13 p = g 0 ∧ gI H 14 p = g 1 ∧ gI H 15 p = g 2) ∧ (LsO G H A.ty (nat g 3) ty eT ∧ ∀ y, y < nat g 3 → kd H (ty y) = 17 ∧ gI H 65 (ty y) = g (8 + 6 * y) ∧ gI H 66 (ty y) = g (9 + 6 * y)) ∧ (LsO G H A.tr (nat g 40) tr eR ∧ ∀ t, t < nat g 40 → TrO H (tr t) (tc t) (tf t) (tu t) (tvOf g t)) ∧ (LsO G H A.ca (nat g 101) ca eC ∧ ∀ c, c < nat g 101 → CaO G H (ca c) (rl c) (re c) (st c) (nat g (106 + 21 * c)) (cvOf g c)) ∧ (LsO G H A.dr (nat g 354) dr eD ∧ ∀ x, x < nat g 354 → DrO H (dr x) (g (355 + 3 * x)) (g (357 + 3 * x)) (g (356 + 3 * x)))
section View
variable {G : Gl} {d : Nat} {Qr : Option AV → AH → Prop} {Qx : String → Nat → AH → Prop} {H : AH} {O : Nat → Nat} {p t : Nat} {A : PA} {g : Nat → Int32} {eT eR eC eD : Nat} {ty tr tc tf tu ca rl re dr : Nat → Nat} {st : Nat → Nat → Nat}
theorem PW.k0 {H' : AH} (h : PW G H p A g eT ty eR tr tc tf tu eC ca rl re st eD dr) (hk : Ks (fun _ => False) H H') : PW G H' p A g eT ty eR tr tc tf tu eC ca rl re st eD dr := by
  obtain ⟨⟨a1, a2, a3, a4, a5, a6, a7, a8, a9⟩, ⟨b1, b2⟩, ⟨c1, c2⟩, ⟨d1, d2⟩, ⟨f1, f2⟩⟩ := h
  have e1 := hk.at (a := p) (by rw [a1]; decide) (fun h => h)
  refine ⟨⟨by rw [at_kd e1]; exact a1, by rw [at_gR e1]; exact a2, by rw [at_gR e1]; exact a3, by rw [at_gR e1]; exact a4, by rw [at_gR e1]; exact a5, by rw [at_gR e1]; exact a6, by rw [at_gI e1]; exact a7, by rw [at_gI e1]; exact a8, by rw [at_gI e1]; exact a9⟩, ⟨b1.ks hk (fun h => h) (fun _ h => h), fun y hy => ?_⟩, ⟨c1.ks hk (fun h => h) (fun _ h => h), fun t ht => (c2 t ht).ks hk (fun h => h) (fun h => h) (fun h => h) (fun h => h)⟩, ⟨d1.ks hk (fun h => h) (fun _ h => h), fun c hc => (d2 c hc).ks hk (fun h => h) (fun h => h) (fun _ h => h) (fun _ _ h => h)⟩, ⟨f1.ks hk (fun h => h) (fun _ h => h), fun x hx => (f2 x hx).ks hk (fun h => h)⟩⟩
  obtain ⟨g1, g2, g3⟩ := b2 y hy
  have e2 := hk.at (a := ty y) (by rw [g1]; decide) (fun h => h)
  exact ⟨by rw [at_kd e2]; exact g1, by rw [at_gI e2]; exact g2, by rw [at_gI e2]; exact g3⟩
theorem PW.of (hP : IsP G H O t p A g) : ∃ eT ty eR tr tc tf tu eC ca rl re st eD dr, PW G H p A g eT ty eR tr tc tf tu eC ca rl re st eD dr := by
  obtain ⟨h0, ⟨h1, -⟩, ⟨eT, ty, nm, nd, h2⟩, ⟨eR, tr, tc, tf, tu, h3⟩, ⟨eC, ca, rl, re, st, h4⟩, ⟨eD, dr, h5⟩⟩ := hP
  refine ⟨eT, ty, eR, tr, tc, tf, tu, eC, ca, rl, re, st, eD, dr, h1, ⟨h2.1, fun y hy => ?_⟩, ⟨h3.1, fun t ht => (h3.2.2.2.1 t ht).1⟩, ⟨h4.1, fun c hc => ?_⟩, ⟨h5.1, fun x hx => ?_⟩⟩
  · obtain ⟨k, -⟩ := h2.2.2.2.2.2 y hy
    exact ⟨k.1, k.2.2.1, k.2.2.2⟩
  · have k := (h4.2.2.2.1 c hc).1
    have e : (cvOf g c 4).toNatClampNeg = nat g (106 + 21 * c) := by
      unfold cvOf nat
      rw [show 102 + 21 * c + 4 = 106 + 21 * c by omega]
    rw [e] at k
    exact k
  · have k := (h5.2.2.2.1 x hx).1
    have e1 : dvOf g x 1 = g (356 + 3 * x) := by unfold dvOf; rw [show 355 + 3 * x + 1 = 356 + 3 * x by omega]
    have e2 : dvOf g x 2 = g (357 + 3 * x) := by unfold dvOf; rw [show 355 + 3 * x + 2 = 357 + 3 * x by omega]
    rw [e1, e2] at k
    exact k
theorem cv_at {k : Nat} (c i : Nat) (h : 102 + 21 * c + k = i) : cvOf g c k = g i := by unfold cvOf; rw [h]
theorem pl_rests (hd : 3 ≤ d) (hW : PW G H p A g eT ty eR tr tc tf tu eC ca rl re st eD dr) (hI9 : IG g) (hQ : ∀ H', Ks (fun _ => False) H H' → Qr (some (vI (sumN (fun x => g (356 + 3 * x)) (nat g 354)))) H') : AMet G d 1 4 yX2_rests wX2_rests H [vR (some p)] Qr Qx := by
  obtain ⟨w1, w8, w9, w10, w11, w12, w13, w14, w15⟩ := hW.1
  have hB := hI9.1
  have h40 := hB.2.1.2
  have h101 := hB.2.2.1.2
  have h354 := hB.2.2.2.1.2
  have h3 := hB.1.2
  refine AMet.of (M := mX2_rests) (maxL := 4) (by first | rfl | decide +kernel) rfl (Nat.le_of_ble_eq_true rfl) ?_
  show AW mX2_rests _ _ _ _ _ _ _ 0 [some (vR (some p)), none, none, none] []
  have kr := (hW.2.2.2.2.1).1
  refine r_iconst (v := nI 0) dX2_rests_0 (by decide) ?_
  refine r_istore_n (i := 1) dX2_rests_1 rfl (Nat.le_of_ble_eq_true rfl) (by simp only [lset]; rfl) ?_
  refine r_aload_n (i := 0) dX2_rests_2 rfl rfl ?_
  refine r_getR dX2_rests_3 fR_X2_31 (by first | assumption | (simp only [kd_sI, kd_sR, kd_sA, kd_sQ, kd_sL, kd_sD, ln_sI, ln_sR, ln_sA, ln_sQ, ln_sL, ln_sD, gI_sR, gI_sA, gI_sQ, gI_sL, gI_sD, gR_sI, gR_sA, gR_sQ, gR_sL, gR_sD, gA_sI, gA_sR, gA_sQ, gA_sL, gA_sD, gQ_sI, gQ_sR, gQ_sA, gQ_sL, gQ_sD, gL_sI, gL_sR, gL_sA, gL_sQ, gL_sD]; assumption) | simp [kd_sI, kd_sR, kd_sA, kd_sQ, kd_sL, kd_sD, ln_sI, ln_sR, ln_sA, ln_sQ, ln_sL, ln_sD, gI_sR, gI_sA, gI_sQ, gI_sL, gI_sD, gR_sI, gR_sA, gR_sQ, gR_sL, gR_sD, gA_sI, gA_sR, gA_sQ, gA_sL, gA_sD, gQ_sI, gQ_sR, gQ_sA, gQ_sL, gQ_sD, gL_sI, gL_sR, gL_sA, gL_sQ, gL_sD, kd_nO, kd_nA, *]) (by first | assumption | exact gI_sIs | exact gR_sRs | with_reducible rfl | (simp only [kd_sI, kd_sR, kd_sA, kd_sQ, kd_sL, kd_sD, ln_sI, ln_sR, ln_sA, ln_sQ, ln_sL, ln_sD, gI_sR, gI_sA, gI_sQ, gI_sL, gI_sD, gR_sI, gR_sA, gR_sQ, gR_sL, gR_sD, gA_sI, gA_sR, gA_sQ, gA_sL, gA_sD, gQ_sI, gQ_sR, gQ_sA, gQ_sL, gQ_sD, gL_sI, gL_sR, gL_sA, gL_sQ, gL_sD]; first | done | assumption | with_reducible rfl) | rfl) ?_
  refine r_callV (As := []) (mc' := 1) (ms' := 4) dX2_rests_6 k_X2_42 rfl (by first | assumption | (simp only [kd_sI, kd_sR, kd_sA, kd_sQ, kd_sL, kd_sD, ln_sI, ln_sR, ln_sA, ln_sQ, ln_sL, ln_sD, gI_sR, gI_sA, gI_sQ, gI_sL, gI_sD, gR_sI, gR_sA, gR_sQ, gR_sL, gR_sD, gA_sI, gA_sR, gA_sQ, gA_sL, gA_sD, gQ_sI, gQ_sR, gQ_sA, gQ_sL, gQ_sD, gL_sI, gL_sR, gL_sA, gL_sQ, gL_sD]; assumption) | simp [kd_sI, kd_sR, kd_sA, kd_sQ, kd_sL, kd_sD, ln_sI, ln_sR, ln_sA, ln_sQ, ln_sL, ln_sD, gI_sR, gI_sA, gI_sQ, gI_sL, gI_sD, gR_sI, gR_sA, gR_sQ, gR_sL, gR_sD, gA_sI, gA_sR, gA_sQ, gA_sL, gA_sD, gQ_sI, gQ_sR, gQ_sA, gQ_sL, gQ_sD, gL_sI, gL_sR, gL_sA, gL_sQ, gL_sD, kd_nO, kd_nA, *]) (T := TJ2) (N := 3) rfl (by first | assumption | omega) (by first | assumption | omega) (by first | assumption | omega) (Nat.le_of_ble_eq_true rfl) ?_
  refine s_iterator (by omega) kr (fun H1 it hit hK1 hI1 => ?_)
  show AW mX2_rests G d Qr Qx _ _ H1 9 _ _
  refine r_astore_n (i := 2) dX2_rests_9 rfl (Nat.le_of_ble_eq_true rfl) (by simp only [lset]; rfl) ?_
  have loop : ∀ (k i rc rs : Nat) (H2 : AH) (l : Option AV) , i + k = nat g 354 → Ks (fun _ => False) H H2 → (ItS H2 it (A.dr) i ∧ kd H it = 0) → AW mX2_rests G d Qr Qx rc rs H2 10 [some (vR (some p)), some (vI (sumN (fun x => g (356 + 3 * x)) i)), some (vR (some it)), l] [] := by
    intro k
    induction k with
    | zero =>
      intro i rc rs H2 l hi hK hI
      have hW2 := hW.k0 hK
      have ki := hI.1.1
      have hin : i = nat g 354 := by omega
      refine r_aload_n (i := 2) dX2_rests_10 rfl rfl ?_
      refine r_callF (As := []) (mc' := 0) (ms' := 0) dX2_rests_11 k_X2_46_J14 rfl (by first | assumption | (simp only [kd_sI, kd_sR, kd_sA, kd_sQ, kd_sL, kd_sD, ln_sI, ln_sR, ln_sA, ln_sQ, ln_sL, ln_sD, gI_sR, gI_sA, gI_sQ, gI_sL, gI_sD, gR_sI, gR_sA, gR_sQ, gR_sL, gR_sD, gA_sI, gA_sR, gA_sQ, gA_sL, gA_sD, gQ_sI, gQ_sR, gQ_sA, gQ_sL, gQ_sD, gL_sI, gL_sR, gL_sA, gL_sQ, gL_sD]; assumption) | simp [kd_sI, kd_sR, kd_sA, kd_sQ, kd_sL, kd_sD, ln_sI, ln_sR, ln_sA, ln_sQ, ln_sL, ln_sD, gI_sR, gI_sA, gI_sQ, gI_sL, gI_sD, gR_sI, gR_sA, gR_sQ, gR_sL, gR_sD, gA_sI, gA_sR, gA_sQ, gA_sL, gA_sD, gQ_sI, gQ_sR, gQ_sA, gQ_sL, gQ_sD, gL_sI, gL_sR, gL_sA, gL_sQ, gL_sD, kd_nO, kd_nA, *]) (T := TJ14) (N := 4) rfl (by first | assumption | omega) (by first | assumption | omega) (by first | assumption | omega) (Nat.le_of_ble_eq_true rfl) ?_
      refine s_hasNext hI.1 (hW2.2.2.2.2.1).1 (hW2.2.2.2.2.1).2.1 (by omega) (by omega) ?_
      rw [if_pos (by omega)]
      refine r_if_eq (tgt := 39) dX2_rests_16 (by decide) (fun h16 => ?_) (fun h16 => ?_)
      · refine r_iload_n (i := 1) dX2_rests_39 rfl rfl ?_
        refine r_ireturn dX2_rests_40 rfl (by first | rfl | assumption | exact vp_nar_int _ | exact pk_nc _) ?_
        rw [← hin] at hQ
        exact hQ H2 hK
      · exact absurd rfl h16
    | succ k ih =>
      intro i rc rs H2 l hi hK hI
      have hW2 := hW.k0 hK
      have ki := hI.1.1
      refine r_aload_n (i := 2) dX2_rests_10 rfl rfl ?_
      refine r_callF (As := []) (mc' := 0) (ms' := 0) dX2_rests_11 k_X2_46_J14 rfl (by first | assumption | (simp only [kd_sI, kd_sR, kd_sA, kd_sQ, kd_sL, kd_sD, ln_sI, ln_sR, ln_sA, ln_sQ, ln_sL, ln_sD, gI_sR, gI_sA, gI_sQ, gI_sL, gI_sD, gR_sI, gR_sA, gR_sQ, gR_sL, gR_sD, gA_sI, gA_sR, gA_sQ, gA_sL, gA_sD, gQ_sI, gQ_sR, gQ_sA, gQ_sL, gQ_sD, gL_sI, gL_sR, gL_sA, gL_sQ, gL_sD]; assumption) | simp [kd_sI, kd_sR, kd_sA, kd_sQ, kd_sL, kd_sD, ln_sI, ln_sR, ln_sA, ln_sQ, ln_sL, ln_sD, gI_sR, gI_sA, gI_sQ, gI_sL, gI_sD, gR_sI, gR_sA, gR_sQ, gR_sL, gR_sD, gA_sI, gA_sR, gA_sQ, gA_sL, gA_sD, gQ_sI, gQ_sR, gQ_sA, gQ_sL, gQ_sD, gL_sI, gL_sR, gL_sA, gL_sQ, gL_sD, kd_nO, kd_nA, *]) (T := TJ14) (N := 4) rfl (by first | assumption | omega) (by first | assumption | omega) (by first | assumption | omega) (Nat.le_of_ble_eq_true rfl) ?_
      refine s_hasNext hI.1 (hW2.2.2.2.2.1).1 (hW2.2.2.2.2.1).2.1 (by omega) (by omega) ?_
      rw [if_neg (by omega)]
      refine r_if_eq (tgt := 39) dX2_rests_16 (by decide) (fun h16 => ?_) (fun h16 => ?_)
      · exact absurd h16 (by decide)
      · refine r_aload_n (i := 2) dX2_rests_19 rfl rfl ?_
        refine r_callF (As := []) (mc' := 0) (ms' := 0) dX2_rests_20 k_X2_52_J14 rfl (by first | assumption | (simp only [kd_sI, kd_sR, kd_sA, kd_sQ, kd_sL, kd_sD, ln_sI, ln_sR, ln_sA, ln_sQ, ln_sL, ln_sD, gI_sR, gI_sA, gI_sQ, gI_sL, gI_sD, gR_sI, gR_sA, gR_sQ, gR_sL, gR_sD, gA_sI, gA_sR, gA_sQ, gA_sL, gA_sD, gQ_sI, gQ_sR, gQ_sA, gQ_sL, gQ_sD, gL_sI, gL_sR, gL_sA, gL_sQ, gL_sD]; assumption) | simp [kd_sI, kd_sR, kd_sA, kd_sQ, kd_sL, kd_sD, ln_sI, ln_sR, ln_sA, ln_sQ, ln_sL, ln_sD, gI_sR, gI_sA, gI_sQ, gI_sL, gI_sD, gR_sI, gR_sA, gR_sQ, gR_sL, gR_sD, gA_sI, gA_sR, gA_sQ, gA_sL, gA_sD, gQ_sI, gQ_sR, gQ_sA, gQ_sL, gQ_sD, gL_sI, gL_sR, gL_sA, gL_sQ, gL_sD, kd_nO, kd_nA, *]) (T := TJ14) (N := 4) rfl (by first | assumption | omega) (by first | assumption | omega) (by first | assumption | omega) (Nat.le_of_ble_eq_true rfl) ?_
        refine s_next (by omega) hI.1 (hW2.2.2.2.2.1) (by omega) (by omega) (fun H3 hK3 hI3 => ?_)
        have hK3' : Ks (fun _ => False) H H3 := hK.tr2 hK3 (fun a ha e => by rw [e] at ha; exact ha hI.2)
        have hW3 := hW.k0 hK3'
        show AW mX2_rests G d Qr Qx _ _ H3 25 _ _
        have hx := hW3.2.2.2.2.2 i (by omega)
        have kx := hx.1
        have f32 := hx.2.2.2
        refine r_cast dX2_rests_25 (by first | assumption | (simp only [kd_sI, kd_sR, kd_sA, kd_sQ, kd_sL, kd_sD, ln_sI, ln_sR, ln_sA, ln_sQ, ln_sL, ln_sD, gI_sR, gI_sA, gI_sQ, gI_sL, gI_sD, gR_sI, gR_sA, gR_sQ, gR_sL, gR_sD, gA_sI, gA_sR, gA_sQ, gA_sL, gA_sD, gQ_sI, gQ_sR, gQ_sA, gQ_sL, gQ_sD, gL_sI, gL_sR, gL_sA, gL_sQ, gL_sD]; assumption) | simp [kd_sI, kd_sR, kd_sA, kd_sQ, kd_sL, kd_sD, ln_sI, ln_sR, ln_sA, ln_sQ, ln_sL, ln_sD, gI_sR, gI_sA, gI_sQ, gI_sL, gI_sD, gR_sI, gR_sA, gR_sQ, gR_sL, gR_sD, gA_sI, gA_sR, gA_sQ, gA_sL, gA_sD, gQ_sI, gQ_sR, gQ_sA, gQ_sL, gQ_sD, gL_sI, gL_sR, gL_sA, gL_sQ, gL_sD, kd_nO, kd_nA, *]) (T := TX6) (N := 3) rfl q1217 (Or.inl rfl) ?_
        refine r_astore_n (i := 3) dX2_rests_28 rfl (Nat.le_of_ble_eq_true rfl) (by simp only [lset]; rfl) ?_
        refine r_iload_n (i := 1) dX2_rests_29 rfl rfl ?_
        refine r_aload_n (i := 3) dX2_rests_30 rfl rfl ?_
        refine r_getI dX2_rests_31 fR_X2_282 (by first | assumption | (simp only [kd_sI, kd_sR, kd_sA, kd_sQ, kd_sL, kd_sD, ln_sI, ln_sR, ln_sA, ln_sQ, ln_sL, ln_sD, gI_sR, gI_sA, gI_sQ, gI_sL, gI_sD, gR_sI, gR_sA, gR_sQ, gR_sL, gR_sD, gA_sI, gA_sR, gA_sQ, gA_sL, gA_sD, gQ_sI, gQ_sR, gQ_sA, gQ_sL, gQ_sD, gL_sI, gL_sR, gL_sA, gL_sQ, gL_sD]; assumption) | simp [kd_sI, kd_sR, kd_sA, kd_sQ, kd_sL, kd_sD, ln_sI, ln_sR, ln_sA, ln_sQ, ln_sL, ln_sD, gI_sR, gI_sA, gI_sQ, gI_sL, gI_sD, gR_sI, gR_sA, gR_sQ, gR_sL, gR_sD, gA_sI, gA_sR, gA_sQ, gA_sL, gA_sD, gQ_sI, gQ_sR, gQ_sA, gQ_sL, gQ_sD, gL_sI, gL_sR, gL_sA, gL_sQ, gL_sD, kd_nO, kd_nA, *]) (by first | assumption | exact gI_sIs | exact gR_sRs | with_reducible rfl | (simp only [kd_sI, kd_sR, kd_sA, kd_sQ, kd_sL, kd_sD, ln_sI, ln_sR, ln_sA, ln_sQ, ln_sL, ln_sD, gI_sR, gI_sA, gI_sQ, gI_sL, gI_sD, gR_sI, gR_sA, gR_sQ, gR_sL, gR_sD, gA_sI, gA_sR, gA_sQ, gA_sL, gA_sD, gQ_sI, gQ_sR, gQ_sA, gQ_sL, gQ_sD, gL_sI, gL_sR, gL_sA, gL_sQ, gL_sD]; first | done | assumption | with_reducible rfl) | rfl) ?_
        refine r_iadd dX2_rests_34 ?_
        try simp only [nI_add]
        refine r_istore_n (i := 1) dX2_rests_35 rfl (Nat.le_of_ble_eq_true rfl) (by simp only [lset]; rfl) ?_
        refine r_goto (tgt := 10) dX2_rests_36 (by decide) ?_
        exact ih (i + 1) _ _ H3 _ (by omega) hK3' ⟨hI3, hI.2⟩
  exact loop (nat g 354) 0 _ _ H1 _ (by omega) hK1 ⟨hI1, hit⟩
theorem pl_firsts (hd : 3 ≤ d) (hW : PW G H p A g eT ty eR tr tc tf tu eC ca rl re st eD dr) (hI9 : IG g) (hQ : ∀ H', Ks (fun _ => False) H H' → Qr (some (vI (sumN (fun x => g (357 + 3 * x)) (nat g 354)))) H') : AMet G d 1 4 yX2_firsts wX2_firsts H [vR (some p)] Qr Qx := by
  obtain ⟨w1, w8, w9, w10, w11, w12, w13, w14, w15⟩ := hW.1
  have hB := hI9.1
  have h40 := hB.2.1.2
  have h101 := hB.2.2.1.2
  have h354 := hB.2.2.2.1.2
  have h3 := hB.1.2
  refine AMet.of (M := mX2_firsts) (maxL := 4) (by first | rfl | decide +kernel) rfl (Nat.le_of_ble_eq_true rfl) ?_
  show AW mX2_firsts _ _ _ _ _ _ _ 0 [some (vR (some p)), none, none, none] []
  have kr := (hW.2.2.2.2.1).1
  refine r_iconst (v := nI 0) dX2_firsts_0 (by decide) ?_
  refine r_istore_n (i := 1) dX2_firsts_1 rfl (Nat.le_of_ble_eq_true rfl) (by simp only [lset]; rfl) ?_
  refine r_aload_n (i := 0) dX2_firsts_2 rfl rfl ?_
  refine r_getR dX2_firsts_3 fR_X2_31 (by first | assumption | (simp only [kd_sI, kd_sR, kd_sA, kd_sQ, kd_sL, kd_sD, ln_sI, ln_sR, ln_sA, ln_sQ, ln_sL, ln_sD, gI_sR, gI_sA, gI_sQ, gI_sL, gI_sD, gR_sI, gR_sA, gR_sQ, gR_sL, gR_sD, gA_sI, gA_sR, gA_sQ, gA_sL, gA_sD, gQ_sI, gQ_sR, gQ_sA, gQ_sL, gQ_sD, gL_sI, gL_sR, gL_sA, gL_sQ, gL_sD]; assumption) | simp [kd_sI, kd_sR, kd_sA, kd_sQ, kd_sL, kd_sD, ln_sI, ln_sR, ln_sA, ln_sQ, ln_sL, ln_sD, gI_sR, gI_sA, gI_sQ, gI_sL, gI_sD, gR_sI, gR_sA, gR_sQ, gR_sL, gR_sD, gA_sI, gA_sR, gA_sQ, gA_sL, gA_sD, gQ_sI, gQ_sR, gQ_sA, gQ_sL, gQ_sD, gL_sI, gL_sR, gL_sA, gL_sQ, gL_sD, kd_nO, kd_nA, *]) (by first | assumption | exact gI_sIs | exact gR_sRs | with_reducible rfl | (simp only [kd_sI, kd_sR, kd_sA, kd_sQ, kd_sL, kd_sD, ln_sI, ln_sR, ln_sA, ln_sQ, ln_sL, ln_sD, gI_sR, gI_sA, gI_sQ, gI_sL, gI_sD, gR_sI, gR_sA, gR_sQ, gR_sL, gR_sD, gA_sI, gA_sR, gA_sQ, gA_sL, gA_sD, gQ_sI, gQ_sR, gQ_sA, gQ_sL, gQ_sD, gL_sI, gL_sR, gL_sA, gL_sQ, gL_sD]; first | done | assumption | with_reducible rfl) | rfl) ?_
  refine r_callV (As := []) (mc' := 1) (ms' := 4) dX2_firsts_6 k_X2_42 rfl (by first | assumption | (simp only [kd_sI, kd_sR, kd_sA, kd_sQ, kd_sL, kd_sD, ln_sI, ln_sR, ln_sA, ln_sQ, ln_sL, ln_sD, gI_sR, gI_sA, gI_sQ, gI_sL, gI_sD, gR_sI, gR_sA, gR_sQ, gR_sL, gR_sD, gA_sI, gA_sR, gA_sQ, gA_sL, gA_sD, gQ_sI, gQ_sR, gQ_sA, gQ_sL, gQ_sD, gL_sI, gL_sR, gL_sA, gL_sQ, gL_sD]; assumption) | simp [kd_sI, kd_sR, kd_sA, kd_sQ, kd_sL, kd_sD, ln_sI, ln_sR, ln_sA, ln_sQ, ln_sL, ln_sD, gI_sR, gI_sA, gI_sQ, gI_sL, gI_sD, gR_sI, gR_sA, gR_sQ, gR_sL, gR_sD, gA_sI, gA_sR, gA_sQ, gA_sL, gA_sD, gQ_sI, gQ_sR, gQ_sA, gQ_sL, gQ_sD, gL_sI, gL_sR, gL_sA, gL_sQ, gL_sD, kd_nO, kd_nA, *]) (T := TJ2) (N := 3) rfl (by first | assumption | omega) (by first | assumption | omega) (by first | assumption | omega) (Nat.le_of_ble_eq_true rfl) ?_
  refine s_iterator (by omega) kr (fun H1 it hit hK1 hI1 => ?_)
  show AW mX2_firsts G d Qr Qx _ _ H1 9 _ _
  refine r_astore_n (i := 2) dX2_firsts_9 rfl (Nat.le_of_ble_eq_true rfl) (by simp only [lset]; rfl) ?_
  have loop : ∀ (k i rc rs : Nat) (H2 : AH) (l : Option AV) , i + k = nat g 354 → Ks (fun _ => False) H H2 → (ItS H2 it (A.dr) i ∧ kd H it = 0) → AW mX2_firsts G d Qr Qx rc rs H2 10 [some (vR (some p)), some (vI (sumN (fun x => g (357 + 3 * x)) i)), some (vR (some it)), l] [] := by
    intro k
    induction k with
    | zero =>
      intro i rc rs H2 l hi hK hI
      have hW2 := hW.k0 hK
      have ki := hI.1.1
      have hin : i = nat g 354 := by omega
      refine r_aload_n (i := 2) dX2_firsts_10 rfl rfl ?_
      refine r_callF (As := []) (mc' := 0) (ms' := 0) dX2_firsts_11 k_X2_46_J14 rfl (by first | assumption | (simp only [kd_sI, kd_sR, kd_sA, kd_sQ, kd_sL, kd_sD, ln_sI, ln_sR, ln_sA, ln_sQ, ln_sL, ln_sD, gI_sR, gI_sA, gI_sQ, gI_sL, gI_sD, gR_sI, gR_sA, gR_sQ, gR_sL, gR_sD, gA_sI, gA_sR, gA_sQ, gA_sL, gA_sD, gQ_sI, gQ_sR, gQ_sA, gQ_sL, gQ_sD, gL_sI, gL_sR, gL_sA, gL_sQ, gL_sD]; assumption) | simp [kd_sI, kd_sR, kd_sA, kd_sQ, kd_sL, kd_sD, ln_sI, ln_sR, ln_sA, ln_sQ, ln_sL, ln_sD, gI_sR, gI_sA, gI_sQ, gI_sL, gI_sD, gR_sI, gR_sA, gR_sQ, gR_sL, gR_sD, gA_sI, gA_sR, gA_sQ, gA_sL, gA_sD, gQ_sI, gQ_sR, gQ_sA, gQ_sL, gQ_sD, gL_sI, gL_sR, gL_sA, gL_sQ, gL_sD, kd_nO, kd_nA, *]) (T := TJ14) (N := 4) rfl (by first | assumption | omega) (by first | assumption | omega) (by first | assumption | omega) (Nat.le_of_ble_eq_true rfl) ?_
      refine s_hasNext hI.1 (hW2.2.2.2.2.1).1 (hW2.2.2.2.2.1).2.1 (by omega) (by omega) ?_
      rw [if_pos (by omega)]
      refine r_if_eq (tgt := 39) dX2_firsts_16 (by decide) (fun h16 => ?_) (fun h16 => ?_)
      · refine r_iload_n (i := 1) dX2_firsts_39 rfl rfl ?_
        refine r_ireturn dX2_firsts_40 rfl (by first | rfl | assumption | exact vp_nar_int _ | exact pk_nc _) ?_
        rw [← hin] at hQ
        exact hQ H2 hK
      · exact absurd rfl h16
    | succ k ih =>
      intro i rc rs H2 l hi hK hI
      have hW2 := hW.k0 hK
      have ki := hI.1.1
      refine r_aload_n (i := 2) dX2_firsts_10 rfl rfl ?_
      refine r_callF (As := []) (mc' := 0) (ms' := 0) dX2_firsts_11 k_X2_46_J14 rfl (by first | assumption | (simp only [kd_sI, kd_sR, kd_sA, kd_sQ, kd_sL, kd_sD, ln_sI, ln_sR, ln_sA, ln_sQ, ln_sL, ln_sD, gI_sR, gI_sA, gI_sQ, gI_sL, gI_sD, gR_sI, gR_sA, gR_sQ, gR_sL, gR_sD, gA_sI, gA_sR, gA_sQ, gA_sL, gA_sD, gQ_sI, gQ_sR, gQ_sA, gQ_sL, gQ_sD, gL_sI, gL_sR, gL_sA, gL_sQ, gL_sD]; assumption) | simp [kd_sI, kd_sR, kd_sA, kd_sQ, kd_sL, kd_sD, ln_sI, ln_sR, ln_sA, ln_sQ, ln_sL, ln_sD, gI_sR, gI_sA, gI_sQ, gI_sL, gI_sD, gR_sI, gR_sA, gR_sQ, gR_sL, gR_sD, gA_sI, gA_sR, gA_sQ, gA_sL, gA_sD, gQ_sI, gQ_sR, gQ_sA, gQ_sL, gQ_sD, gL_sI, gL_sR, gL_sA, gL_sQ, gL_sD, kd_nO, kd_nA, *]) (T := TJ14) (N := 4) rfl (by first | assumption | omega) (by first | assumption | omega) (by first | assumption | omega) (Nat.le_of_ble_eq_true rfl) ?_
      refine s_hasNext hI.1 (hW2.2.2.2.2.1).1 (hW2.2.2.2.2.1).2.1 (by omega) (by omega) ?_
      rw [if_neg (by omega)]
      refine r_if_eq (tgt := 39) dX2_firsts_16 (by decide) (fun h16 => ?_) (fun h16 => ?_)
      · exact absurd h16 (by decide)
      · refine r_aload_n (i := 2) dX2_firsts_19 rfl rfl ?_
        refine r_callF (As := []) (mc' := 0) (ms' := 0) dX2_firsts_20 k_X2_52_J14 rfl (by first | assumption | (simp only [kd_sI, kd_sR, kd_sA, kd_sQ, kd_sL, kd_sD, ln_sI, ln_sR, ln_sA, ln_sQ, ln_sL, ln_sD, gI_sR, gI_sA, gI_sQ, gI_sL, gI_sD, gR_sI, gR_sA, gR_sQ, gR_sL, gR_sD, gA_sI, gA_sR, gA_sQ, gA_sL, gA_sD, gQ_sI, gQ_sR, gQ_sA, gQ_sL, gQ_sD, gL_sI, gL_sR, gL_sA, gL_sQ, gL_sD]; assumption) | simp [kd_sI, kd_sR, kd_sA, kd_sQ, kd_sL, kd_sD, ln_sI, ln_sR, ln_sA, ln_sQ, ln_sL, ln_sD, gI_sR, gI_sA, gI_sQ, gI_sL, gI_sD, gR_sI, gR_sA, gR_sQ, gR_sL, gR_sD, gA_sI, gA_sR, gA_sQ, gA_sL, gA_sD, gQ_sI, gQ_sR, gQ_sA, gQ_sL, gQ_sD, gL_sI, gL_sR, gL_sA, gL_sQ, gL_sD, kd_nO, kd_nA, *]) (T := TJ14) (N := 4) rfl (by first | assumption | omega) (by first | assumption | omega) (by first | assumption | omega) (Nat.le_of_ble_eq_true rfl) ?_
        refine s_next (by omega) hI.1 (hW2.2.2.2.2.1) (by omega) (by omega) (fun H3 hK3 hI3 => ?_)
        have hK3' : Ks (fun _ => False) H H3 := hK.tr2 hK3 (fun a ha e => by rw [e] at ha; exact ha hI.2)
        have hW3 := hW.k0 hK3'
        show AW mX2_firsts G d Qr Qx _ _ H3 25 _ _
        have hx := hW3.2.2.2.2.2 i (by omega)
        have kx := hx.1
        have f31 := hx.2.2.1
        refine r_cast dX2_firsts_25 (by first | assumption | (simp only [kd_sI, kd_sR, kd_sA, kd_sQ, kd_sL, kd_sD, ln_sI, ln_sR, ln_sA, ln_sQ, ln_sL, ln_sD, gI_sR, gI_sA, gI_sQ, gI_sL, gI_sD, gR_sI, gR_sA, gR_sQ, gR_sL, gR_sD, gA_sI, gA_sR, gA_sQ, gA_sL, gA_sD, gQ_sI, gQ_sR, gQ_sA, gQ_sL, gQ_sD, gL_sI, gL_sR, gL_sA, gL_sQ, gL_sD]; assumption) | simp [kd_sI, kd_sR, kd_sA, kd_sQ, kd_sL, kd_sD, ln_sI, ln_sR, ln_sA, ln_sQ, ln_sL, ln_sD, gI_sR, gI_sA, gI_sQ, gI_sL, gI_sD, gR_sI, gR_sA, gR_sQ, gR_sL, gR_sD, gA_sI, gA_sR, gA_sQ, gA_sL, gA_sD, gQ_sI, gQ_sR, gQ_sA, gQ_sL, gQ_sD, gL_sI, gL_sR, gL_sA, gL_sQ, gL_sD, kd_nO, kd_nA, *]) (T := TX6) (N := 3) rfl q1217 (Or.inl rfl) ?_
        refine r_astore_n (i := 3) dX2_firsts_28 rfl (Nat.le_of_ble_eq_true rfl) (by simp only [lset]; rfl) ?_
        refine r_iload_n (i := 1) dX2_firsts_29 rfl rfl ?_
        refine r_aload_n (i := 3) dX2_firsts_30 rfl rfl ?_
        refine r_getI dX2_firsts_31 fR_X2_315 (by first | assumption | (simp only [kd_sI, kd_sR, kd_sA, kd_sQ, kd_sL, kd_sD, ln_sI, ln_sR, ln_sA, ln_sQ, ln_sL, ln_sD, gI_sR, gI_sA, gI_sQ, gI_sL, gI_sD, gR_sI, gR_sA, gR_sQ, gR_sL, gR_sD, gA_sI, gA_sR, gA_sQ, gA_sL, gA_sD, gQ_sI, gQ_sR, gQ_sA, gQ_sL, gQ_sD, gL_sI, gL_sR, gL_sA, gL_sQ, gL_sD]; assumption) | simp [kd_sI, kd_sR, kd_sA, kd_sQ, kd_sL, kd_sD, ln_sI, ln_sR, ln_sA, ln_sQ, ln_sL, ln_sD, gI_sR, gI_sA, gI_sQ, gI_sL, gI_sD, gR_sI, gR_sA, gR_sQ, gR_sL, gR_sD, gA_sI, gA_sR, gA_sQ, gA_sL, gA_sD, gQ_sI, gQ_sR, gQ_sA, gQ_sL, gQ_sD, gL_sI, gL_sR, gL_sA, gL_sQ, gL_sD, kd_nO, kd_nA, *]) (by first | assumption | exact gI_sIs | exact gR_sRs | with_reducible rfl | (simp only [kd_sI, kd_sR, kd_sA, kd_sQ, kd_sL, kd_sD, ln_sI, ln_sR, ln_sA, ln_sQ, ln_sL, ln_sD, gI_sR, gI_sA, gI_sQ, gI_sL, gI_sD, gR_sI, gR_sA, gR_sQ, gR_sL, gR_sD, gA_sI, gA_sR, gA_sQ, gA_sL, gA_sD, gQ_sI, gQ_sR, gQ_sA, gQ_sL, gQ_sD, gL_sI, gL_sR, gL_sA, gL_sQ, gL_sD]; first | done | assumption | with_reducible rfl) | rfl) ?_
        refine r_iadd dX2_firsts_34 ?_
        try simp only [nI_add]
        refine r_istore_n (i := 1) dX2_firsts_35 rfl (Nat.le_of_ble_eq_true rfl) (by simp only [lset]; rfl) ?_
        refine r_goto (tgt := 10) dX2_firsts_36 (by decide) ?_
        exact ih (i + 1) _ _ H3 _ (by omega) hK3' ⟨hI3, hI.2⟩
  exact loop (nat g 354) 0 _ _ H1 _ (by omega) hK1 ⟨hI1, hit⟩
theorem pl_cutLengths (hd : 3 ≤ d) (hW : PW G H p A g eT ty eR tr tc tf tu eC ca rl re st eD dr) (hI9 : IG g) (hQ : ∀ H', Ks (fun _ => False) H H' → Qr (some (vI (sumN (fun c => if g (105 + 21 * c) = nI 2 then g (107 + 21 * c) else nI 0) (nat g 101)))) H') : AMet G d 1 4 yX2_cutLengths wX2_cutLengths H [vR (some p)] Qr Qx := by
  obtain ⟨w1, w8, w9, w10, w11, w12, w13, w14, w15⟩ := hW.1
  have hB := hI9.1
  have h40 := hB.2.1.2
  have h101 := hB.2.2.1.2
  have h354 := hB.2.2.2.1.2
  have h3 := hB.1.2
  refine AMet.of (M := mX2_cutLengths) (maxL := 4) (by first | rfl | decide +kernel) rfl (Nat.le_of_ble_eq_true rfl) ?_
  show AW mX2_cutLengths _ _ _ _ _ _ _ 0 [some (vR (some p)), none, none, none] []
  have kr := (hW.2.2.2.1.1).1
  refine r_iconst (v := nI 0) dX2_cutLengths_0 (by decide) ?_
  refine r_istore_n (i := 1) dX2_cutLengths_1 rfl (Nat.le_of_ble_eq_true rfl) (by simp only [lset]; rfl) ?_
  refine r_aload_n (i := 0) dX2_cutLengths_2 rfl rfl ?_
  refine r_getR dX2_cutLengths_3 fR_X2_28 (by first | assumption | (simp only [kd_sI, kd_sR, kd_sA, kd_sQ, kd_sL, kd_sD, ln_sI, ln_sR, ln_sA, ln_sQ, ln_sL, ln_sD, gI_sR, gI_sA, gI_sQ, gI_sL, gI_sD, gR_sI, gR_sA, gR_sQ, gR_sL, gR_sD, gA_sI, gA_sR, gA_sQ, gA_sL, gA_sD, gQ_sI, gQ_sR, gQ_sA, gQ_sL, gQ_sD, gL_sI, gL_sR, gL_sA, gL_sQ, gL_sD]; assumption) | simp [kd_sI, kd_sR, kd_sA, kd_sQ, kd_sL, kd_sD, ln_sI, ln_sR, ln_sA, ln_sQ, ln_sL, ln_sD, gI_sR, gI_sA, gI_sQ, gI_sL, gI_sD, gR_sI, gR_sA, gR_sQ, gR_sL, gR_sD, gA_sI, gA_sR, gA_sQ, gA_sL, gA_sD, gQ_sI, gQ_sR, gQ_sA, gQ_sL, gQ_sD, gL_sI, gL_sR, gL_sA, gL_sQ, gL_sD, kd_nO, kd_nA, *]) (by first | assumption | exact gI_sIs | exact gR_sRs | with_reducible rfl | (simp only [kd_sI, kd_sR, kd_sA, kd_sQ, kd_sL, kd_sD, ln_sI, ln_sR, ln_sA, ln_sQ, ln_sL, ln_sD, gI_sR, gI_sA, gI_sQ, gI_sL, gI_sD, gR_sI, gR_sA, gR_sQ, gR_sL, gR_sD, gA_sI, gA_sR, gA_sQ, gA_sL, gA_sD, gQ_sI, gQ_sR, gQ_sA, gQ_sL, gQ_sD, gL_sI, gL_sR, gL_sA, gL_sQ, gL_sD]; first | done | assumption | with_reducible rfl) | rfl) ?_
  refine r_callV (As := []) (mc' := 1) (ms' := 4) dX2_cutLengths_6 k_X2_42 rfl (by first | assumption | (simp only [kd_sI, kd_sR, kd_sA, kd_sQ, kd_sL, kd_sD, ln_sI, ln_sR, ln_sA, ln_sQ, ln_sL, ln_sD, gI_sR, gI_sA, gI_sQ, gI_sL, gI_sD, gR_sI, gR_sA, gR_sQ, gR_sL, gR_sD, gA_sI, gA_sR, gA_sQ, gA_sL, gA_sD, gQ_sI, gQ_sR, gQ_sA, gQ_sL, gQ_sD, gL_sI, gL_sR, gL_sA, gL_sQ, gL_sD]; assumption) | simp [kd_sI, kd_sR, kd_sA, kd_sQ, kd_sL, kd_sD, ln_sI, ln_sR, ln_sA, ln_sQ, ln_sL, ln_sD, gI_sR, gI_sA, gI_sQ, gI_sL, gI_sD, gR_sI, gR_sA, gR_sQ, gR_sL, gR_sD, gA_sI, gA_sR, gA_sQ, gA_sL, gA_sD, gQ_sI, gQ_sR, gQ_sA, gQ_sL, gQ_sD, gL_sI, gL_sR, gL_sA, gL_sQ, gL_sD, kd_nO, kd_nA, *]) (T := TJ2) (N := 3) rfl (by first | assumption | omega) (by first | assumption | omega) (by first | assumption | omega) (Nat.le_of_ble_eq_true rfl) ?_
  refine s_iterator (by omega) kr (fun H1 it hit hK1 hI1 => ?_)
  show AW mX2_cutLengths G d Qr Qx _ _ H1 9 _ _
  refine r_astore_n (i := 2) dX2_cutLengths_9 rfl (Nat.le_of_ble_eq_true rfl) (by simp only [lset]; rfl) ?_
  have loop : ∀ (k i rc rs : Nat) (H2 : AH) (l : Option AV) , i + k = nat g 101 → Ks (fun _ => False) H H2 → (ItS H2 it (A.ca) i ∧ kd H it = 0) → AW mX2_cutLengths G d Qr Qx rc rs H2 10 [some (vR (some p)), some (vI (sumN (fun c => if g (105 + 21 * c) = nI 2 then g (107 + 21 * c) else nI 0) i)), some (vR (some it)), l] [] := by
    intro k
    induction k with
    | zero =>
      intro i rc rs H2 l hi hK hI
      have hW2 := hW.k0 hK
      have ki := hI.1.1
      have hin : i = nat g 101 := by omega
      refine r_aload_n (i := 2) dX2_cutLengths_10 rfl rfl ?_
      refine r_callF (As := []) (mc' := 0) (ms' := 0) dX2_cutLengths_11 k_X2_46_J14 rfl (by first | assumption | (simp only [kd_sI, kd_sR, kd_sA, kd_sQ, kd_sL, kd_sD, ln_sI, ln_sR, ln_sA, ln_sQ, ln_sL, ln_sD, gI_sR, gI_sA, gI_sQ, gI_sL, gI_sD, gR_sI, gR_sA, gR_sQ, gR_sL, gR_sD, gA_sI, gA_sR, gA_sQ, gA_sL, gA_sD, gQ_sI, gQ_sR, gQ_sA, gQ_sL, gQ_sD, gL_sI, gL_sR, gL_sA, gL_sQ, gL_sD]; assumption) | simp [kd_sI, kd_sR, kd_sA, kd_sQ, kd_sL, kd_sD, ln_sI, ln_sR, ln_sA, ln_sQ, ln_sL, ln_sD, gI_sR, gI_sA, gI_sQ, gI_sL, gI_sD, gR_sI, gR_sA, gR_sQ, gR_sL, gR_sD, gA_sI, gA_sR, gA_sQ, gA_sL, gA_sD, gQ_sI, gQ_sR, gQ_sA, gQ_sL, gQ_sD, gL_sI, gL_sR, gL_sA, gL_sQ, gL_sD, kd_nO, kd_nA, *]) (T := TJ14) (N := 4) rfl (by first | assumption | omega) (by first | assumption | omega) (by first | assumption | omega) (Nat.le_of_ble_eq_true rfl) ?_
      refine s_hasNext hI.1 (hW2.2.2.2.1.1).1 (hW2.2.2.2.1.1).2.1 (by omega) (by omega) ?_
      rw [if_pos (by omega)]
      refine r_if_eq (tgt := 51) dX2_cutLengths_16 (by decide) (fun h16 => ?_) (fun h16 => ?_)
      · refine r_iload_n (i := 1) dX2_cutLengths_51 rfl rfl ?_
        refine r_ireturn dX2_cutLengths_52 rfl (by first | rfl | assumption | exact vp_nar_int _ | exact pk_nc _) ?_
        rw [← hin] at hQ
        exact hQ H2 hK
      · exact absurd rfl h16
    | succ k ih =>
      intro i rc rs H2 l hi hK hI
      have hW2 := hW.k0 hK
      have ki := hI.1.1
      refine r_aload_n (i := 2) dX2_cutLengths_10 rfl rfl ?_
      refine r_callF (As := []) (mc' := 0) (ms' := 0) dX2_cutLengths_11 k_X2_46_J14 rfl (by first | assumption | (simp only [kd_sI, kd_sR, kd_sA, kd_sQ, kd_sL, kd_sD, ln_sI, ln_sR, ln_sA, ln_sQ, ln_sL, ln_sD, gI_sR, gI_sA, gI_sQ, gI_sL, gI_sD, gR_sI, gR_sA, gR_sQ, gR_sL, gR_sD, gA_sI, gA_sR, gA_sQ, gA_sL, gA_sD, gQ_sI, gQ_sR, gQ_sA, gQ_sL, gQ_sD, gL_sI, gL_sR, gL_sA, gL_sQ, gL_sD]; assumption) | simp [kd_sI, kd_sR, kd_sA, kd_sQ, kd_sL, kd_sD, ln_sI, ln_sR, ln_sA, ln_sQ, ln_sL, ln_sD, gI_sR, gI_sA, gI_sQ, gI_sL, gI_sD, gR_sI, gR_sA, gR_sQ, gR_sL, gR_sD, gA_sI, gA_sR, gA_sQ, gA_sL, gA_sD, gQ_sI, gQ_sR, gQ_sA, gQ_sL, gQ_sD, gL_sI, gL_sR, gL_sA, gL_sQ, gL_sD, kd_nO, kd_nA, *]) (T := TJ14) (N := 4) rfl (by first | assumption | omega) (by first | assumption | omega) (by first | assumption | omega) (Nat.le_of_ble_eq_true rfl) ?_
      refine s_hasNext hI.1 (hW2.2.2.2.1.1).1 (hW2.2.2.2.1.1).2.1 (by omega) (by omega) ?_
      rw [if_neg (by omega)]
      refine r_if_eq (tgt := 51) dX2_cutLengths_16 (by decide) (fun h16 => ?_) (fun h16 => ?_)
      · exact absurd h16 (by decide)
      · refine r_aload_n (i := 2) dX2_cutLengths_19 rfl rfl ?_
        refine r_callF (As := []) (mc' := 0) (ms' := 0) dX2_cutLengths_20 k_X2_52_J14 rfl (by first | assumption | (simp only [kd_sI, kd_sR, kd_sA, kd_sQ, kd_sL, kd_sD, ln_sI, ln_sR, ln_sA, ln_sQ, ln_sL, ln_sD, gI_sR, gI_sA, gI_sQ, gI_sL, gI_sD, gR_sI, gR_sA, gR_sQ, gR_sL, gR_sD, gA_sI, gA_sR, gA_sQ, gA_sL, gA_sD, gQ_sI, gQ_sR, gQ_sA, gQ_sL, gQ_sD, gL_sI, gL_sR, gL_sA, gL_sQ, gL_sD]; assumption) | simp [kd_sI, kd_sR, kd_sA, kd_sQ, kd_sL, kd_sD, ln_sI, ln_sR, ln_sA, ln_sQ, ln_sL, ln_sD, gI_sR, gI_sA, gI_sQ, gI_sL, gI_sD, gR_sI, gR_sA, gR_sQ, gR_sL, gR_sD, gA_sI, gA_sR, gA_sQ, gA_sL, gA_sD, gQ_sI, gQ_sR, gQ_sA, gQ_sL, gQ_sD, gL_sI, gL_sR, gL_sA, gL_sQ, gL_sD, kd_nO, kd_nA, *]) (T := TJ14) (N := 4) rfl (by first | assumption | omega) (by first | assumption | omega) (by first | assumption | omega) (Nat.le_of_ble_eq_true rfl) ?_
        refine s_next (by omega) hI.1 (hW2.2.2.2.1.1) (by omega) (by omega) (fun H3 hK3 hI3 => ?_)
        have hK3' : Ks (fun _ => False) H H3 := hK.tr2 hK3 (fun a ha e => by rw [e] at ha; exact ha hI.2)
        have hW3 := hW.k0 hK3'
        show AW mX2_cutLengths G d Qr Qx _ _ H3 25 _ _
        have hx := hW3.2.2.2.1.2 i (by omega)
        have kx := hx.1.1
        have f26 : gI H3 26 (ca i) = g (105 + 21 * i) := hx.1.2.2.2.2.1.trans (cv_at i _ (by omega))
        have f28 : gI H3 28 (ca i) = g (107 + 21 * i) := hx.1.2.2.2.2.2.1.trans (cv_at i _ (by omega))
        have hs : sumN (fun c => if g (105 + 21 * c) = nI 2 then g (107 + 21 * c) else nI 0) (i + 1) = sumN (fun c => if g (105 + 21 * c) = nI 2 then g (107 + 21 * c) else nI 0) i + (if g (105 + 21 * i) = nI 2 then g (107 + 21 * i) else nI 0) := rfl
        refine r_cast dX2_cutLengths_25 (by first | assumption | (simp only [kd_sI, kd_sR, kd_sA, kd_sQ, kd_sL, kd_sD, ln_sI, ln_sR, ln_sA, ln_sQ, ln_sL, ln_sD, gI_sR, gI_sA, gI_sQ, gI_sL, gI_sD, gR_sI, gR_sA, gR_sQ, gR_sL, gR_sD, gA_sI, gA_sR, gA_sQ, gA_sL, gA_sD, gQ_sI, gQ_sR, gQ_sA, gQ_sL, gQ_sD, gL_sI, gL_sR, gL_sA, gL_sQ, gL_sD]; assumption) | simp [kd_sI, kd_sR, kd_sA, kd_sQ, kd_sL, kd_sD, ln_sI, ln_sR, ln_sA, ln_sQ, ln_sL, ln_sD, gI_sR, gI_sA, gI_sQ, gI_sL, gI_sD, gR_sI, gR_sA, gR_sQ, gR_sL, gR_sD, gA_sI, gA_sR, gA_sQ, gA_sL, gA_sD, gQ_sI, gQ_sR, gQ_sA, gQ_sL, gQ_sD, gL_sI, gL_sR, gL_sA, gL_sQ, gL_sD, kd_nO, kd_nA, *]) (T := TX5) (N := 7) rfl q1222 (Or.inl rfl) ?_
        refine r_astore_n (i := 3) dX2_cutLengths_28 rfl (Nat.le_of_ble_eq_true rfl) (by simp only [lset]; rfl) ?_
        refine r_iload_n (i := 1) dX2_cutLengths_29 rfl rfl ?_
        refine r_aload_n (i := 3) dX2_cutLengths_30 rfl rfl ?_
        refine r_getI dX2_cutLengths_31 fR_X2_211 (by first | assumption | (simp only [kd_sI, kd_sR, kd_sA, kd_sQ, kd_sL, kd_sD, ln_sI, ln_sR, ln_sA, ln_sQ, ln_sL, ln_sD, gI_sR, gI_sA, gI_sQ, gI_sL, gI_sD, gR_sI, gR_sA, gR_sQ, gR_sL, gR_sD, gA_sI, gA_sR, gA_sQ, gA_sL, gA_sD, gQ_sI, gQ_sR, gQ_sA, gQ_sL, gQ_sD, gL_sI, gL_sR, gL_sA, gL_sQ, gL_sD]; assumption) | simp [kd_sI, kd_sR, kd_sA, kd_sQ, kd_sL, kd_sD, ln_sI, ln_sR, ln_sA, ln_sQ, ln_sL, ln_sD, gI_sR, gI_sA, gI_sQ, gI_sL, gI_sD, gR_sI, gR_sA, gR_sQ, gR_sL, gR_sD, gA_sI, gA_sR, gA_sQ, gA_sL, gA_sD, gQ_sI, gQ_sR, gQ_sA, gQ_sL, gQ_sD, gL_sI, gL_sR, gL_sA, gL_sQ, gL_sD, kd_nO, kd_nA, *]) (by first | assumption | exact gI_sIs | exact gR_sRs | with_reducible rfl | (simp only [kd_sI, kd_sR, kd_sA, kd_sQ, kd_sL, kd_sD, ln_sI, ln_sR, ln_sA, ln_sQ, ln_sL, ln_sD, gI_sR, gI_sA, gI_sQ, gI_sL, gI_sD, gR_sI, gR_sA, gR_sQ, gR_sL, gR_sD, gA_sI, gA_sR, gA_sQ, gA_sL, gA_sD, gQ_sI, gQ_sR, gQ_sA, gQ_sL, gQ_sD, gL_sI, gL_sR, gL_sA, gL_sQ, gL_sD]; first | done | assumption | with_reducible rfl) | rfl) ?_
        refine r_iconst (v := nI 2) dX2_cutLengths_34 (by decide) ?_
        refine r_icmp_ne (tgt := 45) dX2_cutLengths_35 (by decide) (fun h35 => ?_) (fun h35 => ?_)
        · rw [if_neg (by simpa using h35)] at hs
          refine r_iconst (v := nI 0) dX2_cutLengths_45 (by decide) ?_
          refine r_iadd dX2_cutLengths_46 ?_
          try simp only [nI_add]
          refine r_istore_n (i := 1) dX2_cutLengths_47 rfl (Nat.le_of_ble_eq_true rfl) (by simp only [lset]; rfl) ?_
          refine r_goto (tgt := 10) dX2_cutLengths_48 (by decide) ?_
          rw [show sumN (fun c => if g (105 + 21 * c) = nI 2 then g (107 + 21 * c) else nI 0) i + nI 0 = sumN (fun c => if g (105 + 21 * c) = nI 2 then g (107 + 21 * c) else nI 0) (i + 1) from hs.symm]
          exact ih (i + 1) _ _ H3 _ (by omega) hK3' ⟨hI3, hI.2⟩
        · rw [if_pos (by simpa using h35)] at hs
          refine r_aload_n (i := 3) dX2_cutLengths_38 rfl rfl ?_
          refine r_getI dX2_cutLengths_39 fR_X2_268 (by first | assumption | (simp only [kd_sI, kd_sR, kd_sA, kd_sQ, kd_sL, kd_sD, ln_sI, ln_sR, ln_sA, ln_sQ, ln_sL, ln_sD, gI_sR, gI_sA, gI_sQ, gI_sL, gI_sD, gR_sI, gR_sA, gR_sQ, gR_sL, gR_sD, gA_sI, gA_sR, gA_sQ, gA_sL, gA_sD, gQ_sI, gQ_sR, gQ_sA, gQ_sL, gQ_sD, gL_sI, gL_sR, gL_sA, gL_sQ, gL_sD]; assumption) | simp [kd_sI, kd_sR, kd_sA, kd_sQ, kd_sL, kd_sD, ln_sI, ln_sR, ln_sA, ln_sQ, ln_sL, ln_sD, gI_sR, gI_sA, gI_sQ, gI_sL, gI_sD, gR_sI, gR_sA, gR_sQ, gR_sL, gR_sD, gA_sI, gA_sR, gA_sQ, gA_sL, gA_sD, gQ_sI, gQ_sR, gQ_sA, gQ_sL, gQ_sD, gL_sI, gL_sR, gL_sA, gL_sQ, gL_sD, kd_nO, kd_nA, *]) (by first | assumption | exact gI_sIs | exact gR_sRs | with_reducible rfl | (simp only [kd_sI, kd_sR, kd_sA, kd_sQ, kd_sL, kd_sD, ln_sI, ln_sR, ln_sA, ln_sQ, ln_sL, ln_sD, gI_sR, gI_sA, gI_sQ, gI_sL, gI_sD, gR_sI, gR_sA, gR_sQ, gR_sL, gR_sD, gA_sI, gA_sR, gA_sQ, gA_sL, gA_sD, gQ_sI, gQ_sR, gQ_sA, gQ_sL, gQ_sD, gL_sI, gL_sR, gL_sA, gL_sQ, gL_sD]; first | done | assumption | with_reducible rfl) | rfl) ?_
          refine r_goto (tgt := 46) dX2_cutLengths_42 (by decide) ?_
          refine r_iadd dX2_cutLengths_46 ?_
          try simp only [nI_add]
          refine r_istore_n (i := 1) dX2_cutLengths_47 rfl (Nat.le_of_ble_eq_true rfl) (by simp only [lset]; rfl) ?_
          refine r_goto (tgt := 10) dX2_cutLengths_48 (by decide) ?_
          rw [show sumN (fun c => if g (105 + 21 * c) = nI 2 then g (107 + 21 * c) else nI 0) i + g (107 + 21 * i) = sumN (fun c => if g (105 + 21 * c) = nI 2 then g (107 + 21 * c) else nI 0) (i + 1) from hs.symm]
          exact ih (i + 1) _ _ H3 _ (by omega) hK3' ⟨hI3, hI.2⟩
  exact loop (nat g 101) 0 _ _ H1 _ (by omega) hK1 ⟨hI1, hit⟩
theorem pl_cutFrom {x : Int32} (hd : 3 ≤ d) (hW : PW G H p A g eT ty eR tr tc tf tu eC ca rl re st eD dr) (hI9 : IG g) (hQ : ∀ H', Ks (fun _ => False) H H' → Qr (some (vI (sumN (fun c => if g (108 + 21 * c) = x then nI 1 else nI 0) (nat g 101)))) H') : AMet G d 1 4 yX2_cutFrom wX2_cutFrom H [vR (some p), vI x] Qr Qx := by
  obtain ⟨w1, w8, w9, w10, w11, w12, w13, w14, w15⟩ := hW.1
  have hB := hI9.1
  have h40 := hB.2.1.2
  have h101 := hB.2.2.1.2
  have h354 := hB.2.2.2.1.2
  have h3 := hB.1.2
  refine AMet.of (M := mX2_cutFrom) (maxL := 5) (by first | rfl | decide +kernel) rfl (Nat.le_of_ble_eq_true rfl) ?_
  show AW mX2_cutFrom _ _ _ _ _ _ _ 0 [some (vR (some p)), some (vI x), none, none, none] []
  have kr := (hW.2.2.2.1.1).1
  refine r_iconst (v := nI 0) dX2_cutFrom_0 (by decide) ?_
  refine r_istore_n (i := 2) dX2_cutFrom_1 rfl (Nat.le_of_ble_eq_true rfl) (by simp only [lset]; rfl) ?_
  refine r_aload_n (i := 0) dX2_cutFrom_2 rfl rfl ?_
  refine r_getR dX2_cutFrom_3 fR_X2_28 (by first | assumption | (simp only [kd_sI, kd_sR, kd_sA, kd_sQ, kd_sL, kd_sD, ln_sI, ln_sR, ln_sA, ln_sQ, ln_sL, ln_sD, gI_sR, gI_sA, gI_sQ, gI_sL, gI_sD, gR_sI, gR_sA, gR_sQ, gR_sL, gR_sD, gA_sI, gA_sR, gA_sQ, gA_sL, gA_sD, gQ_sI, gQ_sR, gQ_sA, gQ_sL, gQ_sD, gL_sI, gL_sR, gL_sA, gL_sQ, gL_sD]; assumption) | simp [kd_sI, kd_sR, kd_sA, kd_sQ, kd_sL, kd_sD, ln_sI, ln_sR, ln_sA, ln_sQ, ln_sL, ln_sD, gI_sR, gI_sA, gI_sQ, gI_sL, gI_sD, gR_sI, gR_sA, gR_sQ, gR_sL, gR_sD, gA_sI, gA_sR, gA_sQ, gA_sL, gA_sD, gQ_sI, gQ_sR, gQ_sA, gQ_sL, gQ_sD, gL_sI, gL_sR, gL_sA, gL_sQ, gL_sD, kd_nO, kd_nA, *]) (by first | assumption | exact gI_sIs | exact gR_sRs | with_reducible rfl | (simp only [kd_sI, kd_sR, kd_sA, kd_sQ, kd_sL, kd_sD, ln_sI, ln_sR, ln_sA, ln_sQ, ln_sL, ln_sD, gI_sR, gI_sA, gI_sQ, gI_sL, gI_sD, gR_sI, gR_sA, gR_sQ, gR_sL, gR_sD, gA_sI, gA_sR, gA_sQ, gA_sL, gA_sD, gQ_sI, gQ_sR, gQ_sA, gQ_sL, gQ_sD, gL_sI, gL_sR, gL_sA, gL_sQ, gL_sD]; first | done | assumption | with_reducible rfl) | rfl) ?_
  refine r_callV (As := []) (mc' := 1) (ms' := 4) dX2_cutFrom_6 k_X2_42 rfl (by first | assumption | (simp only [kd_sI, kd_sR, kd_sA, kd_sQ, kd_sL, kd_sD, ln_sI, ln_sR, ln_sA, ln_sQ, ln_sL, ln_sD, gI_sR, gI_sA, gI_sQ, gI_sL, gI_sD, gR_sI, gR_sA, gR_sQ, gR_sL, gR_sD, gA_sI, gA_sR, gA_sQ, gA_sL, gA_sD, gQ_sI, gQ_sR, gQ_sA, gQ_sL, gQ_sD, gL_sI, gL_sR, gL_sA, gL_sQ, gL_sD]; assumption) | simp [kd_sI, kd_sR, kd_sA, kd_sQ, kd_sL, kd_sD, ln_sI, ln_sR, ln_sA, ln_sQ, ln_sL, ln_sD, gI_sR, gI_sA, gI_sQ, gI_sL, gI_sD, gR_sI, gR_sA, gR_sQ, gR_sL, gR_sD, gA_sI, gA_sR, gA_sQ, gA_sL, gA_sD, gQ_sI, gQ_sR, gQ_sA, gQ_sL, gQ_sD, gL_sI, gL_sR, gL_sA, gL_sQ, gL_sD, kd_nO, kd_nA, *]) (T := TJ2) (N := 3) rfl (by first | assumption | omega) (by first | assumption | omega) (by first | assumption | omega) (Nat.le_of_ble_eq_true rfl) ?_
  refine s_iterator (by omega) kr (fun H1 it hit hK1 hI1 => ?_)
  show AW mX2_cutFrom G d Qr Qx _ _ H1 9 _ _
  refine r_astore_n (i := 3) dX2_cutFrom_9 rfl (Nat.le_of_ble_eq_true rfl) (by simp only [lset]; rfl) ?_
  have loop : ∀ (k i rc rs : Nat) (H2 : AH) (l : Option AV) , i + k = nat g 101 → Ks (fun _ => False) H H2 → (ItS H2 it (A.ca) i ∧ kd H it = 0) → AW mX2_cutFrom G d Qr Qx rc rs H2 10 [some (vR (some p)), some (vI x), some (vI (sumN (fun c => if g (108 + 21 * c) = x then nI 1 else nI 0) i)), some (vR (some it)), l] [] := by
    intro k
    induction k with
    | zero =>
      intro i rc rs H2 l hi hK hI
      have hW2 := hW.k0 hK
      have ki := hI.1.1
      have hin : i = nat g 101 := by omega
      refine r_aload_n (i := 3) dX2_cutFrom_10 rfl rfl ?_
      refine r_callF (As := []) (mc' := 0) (ms' := 0) dX2_cutFrom_11 k_X2_46_J14 rfl (by first | assumption | (simp only [kd_sI, kd_sR, kd_sA, kd_sQ, kd_sL, kd_sD, ln_sI, ln_sR, ln_sA, ln_sQ, ln_sL, ln_sD, gI_sR, gI_sA, gI_sQ, gI_sL, gI_sD, gR_sI, gR_sA, gR_sQ, gR_sL, gR_sD, gA_sI, gA_sR, gA_sQ, gA_sL, gA_sD, gQ_sI, gQ_sR, gQ_sA, gQ_sL, gQ_sD, gL_sI, gL_sR, gL_sA, gL_sQ, gL_sD]; assumption) | simp [kd_sI, kd_sR, kd_sA, kd_sQ, kd_sL, kd_sD, ln_sI, ln_sR, ln_sA, ln_sQ, ln_sL, ln_sD, gI_sR, gI_sA, gI_sQ, gI_sL, gI_sD, gR_sI, gR_sA, gR_sQ, gR_sL, gR_sD, gA_sI, gA_sR, gA_sQ, gA_sL, gA_sD, gQ_sI, gQ_sR, gQ_sA, gQ_sL, gQ_sD, gL_sI, gL_sR, gL_sA, gL_sQ, gL_sD, kd_nO, kd_nA, *]) (T := TJ14) (N := 4) rfl (by first | assumption | omega) (by first | assumption | omega) (by first | assumption | omega) (Nat.le_of_ble_eq_true rfl) ?_
      refine s_hasNext hI.1 (hW2.2.2.2.1.1).1 (hW2.2.2.2.1.1).2.1 (by omega) (by omega) ?_
      rw [if_pos (by omega)]
      refine r_if_eq (tgt := 50) dX2_cutFrom_16 (by decide) (fun h16 => ?_) (fun h16 => ?_)
      · refine r_iload_n (i := 2) dX2_cutFrom_50 rfl rfl ?_
        refine r_ireturn dX2_cutFrom_51 rfl (by first | rfl | assumption | exact vp_nar_int _ | exact pk_nc _) ?_
        rw [← hin] at hQ
        exact hQ H2 hK
      · exact absurd rfl h16
    | succ k ih =>
      intro i rc rs H2 l hi hK hI
      have hW2 := hW.k0 hK
      have ki := hI.1.1
      refine r_aload_n (i := 3) dX2_cutFrom_10 rfl rfl ?_
      refine r_callF (As := []) (mc' := 0) (ms' := 0) dX2_cutFrom_11 k_X2_46_J14 rfl (by first | assumption | (simp only [kd_sI, kd_sR, kd_sA, kd_sQ, kd_sL, kd_sD, ln_sI, ln_sR, ln_sA, ln_sQ, ln_sL, ln_sD, gI_sR, gI_sA, gI_sQ, gI_sL, gI_sD, gR_sI, gR_sA, gR_sQ, gR_sL, gR_sD, gA_sI, gA_sR, gA_sQ, gA_sL, gA_sD, gQ_sI, gQ_sR, gQ_sA, gQ_sL, gQ_sD, gL_sI, gL_sR, gL_sA, gL_sQ, gL_sD]; assumption) | simp [kd_sI, kd_sR, kd_sA, kd_sQ, kd_sL, kd_sD, ln_sI, ln_sR, ln_sA, ln_sQ, ln_sL, ln_sD, gI_sR, gI_sA, gI_sQ, gI_sL, gI_sD, gR_sI, gR_sA, gR_sQ, gR_sL, gR_sD, gA_sI, gA_sR, gA_sQ, gA_sL, gA_sD, gQ_sI, gQ_sR, gQ_sA, gQ_sL, gQ_sD, gL_sI, gL_sR, gL_sA, gL_sQ, gL_sD, kd_nO, kd_nA, *]) (T := TJ14) (N := 4) rfl (by first | assumption | omega) (by first | assumption | omega) (by first | assumption | omega) (Nat.le_of_ble_eq_true rfl) ?_
      refine s_hasNext hI.1 (hW2.2.2.2.1.1).1 (hW2.2.2.2.1.1).2.1 (by omega) (by omega) ?_
      rw [if_neg (by omega)]
      refine r_if_eq (tgt := 50) dX2_cutFrom_16 (by decide) (fun h16 => ?_) (fun h16 => ?_)
      · exact absurd h16 (by decide)
      · refine r_aload_n (i := 3) dX2_cutFrom_19 rfl rfl ?_
        refine r_callF (As := []) (mc' := 0) (ms' := 0) dX2_cutFrom_20 k_X2_52_J14 rfl (by first | assumption | (simp only [kd_sI, kd_sR, kd_sA, kd_sQ, kd_sL, kd_sD, ln_sI, ln_sR, ln_sA, ln_sQ, ln_sL, ln_sD, gI_sR, gI_sA, gI_sQ, gI_sL, gI_sD, gR_sI, gR_sA, gR_sQ, gR_sL, gR_sD, gA_sI, gA_sR, gA_sQ, gA_sL, gA_sD, gQ_sI, gQ_sR, gQ_sA, gQ_sL, gQ_sD, gL_sI, gL_sR, gL_sA, gL_sQ, gL_sD]; assumption) | simp [kd_sI, kd_sR, kd_sA, kd_sQ, kd_sL, kd_sD, ln_sI, ln_sR, ln_sA, ln_sQ, ln_sL, ln_sD, gI_sR, gI_sA, gI_sQ, gI_sL, gI_sD, gR_sI, gR_sA, gR_sQ, gR_sL, gR_sD, gA_sI, gA_sR, gA_sQ, gA_sL, gA_sD, gQ_sI, gQ_sR, gQ_sA, gQ_sL, gQ_sD, gL_sI, gL_sR, gL_sA, gL_sQ, gL_sD, kd_nO, kd_nA, *]) (T := TJ14) (N := 4) rfl (by first | assumption | omega) (by first | assumption | omega) (by first | assumption | omega) (Nat.le_of_ble_eq_true rfl) ?_
        refine s_next (by omega) hI.1 (hW2.2.2.2.1.1) (by omega) (by omega) (fun H3 hK3 hI3 => ?_)
        have hK3' : Ks (fun _ => False) H H3 := hK.tr2 hK3 (fun a ha e => by rw [e] at ha; exact ha hI.2)
        have hW3 := hW.k0 hK3'
        show AW mX2_cutFrom G d Qr Qx _ _ H3 25 _ _
        have hx := hW3.2.2.2.1.2 i (by omega)
        have kx := hx.1.1
        have f29 : gI H3 29 (ca i) = g (108 + 21 * i) := hx.1.2.2.2.2.2.2.1.trans (cv_at i _ (by omega))
        have hs : sumN (fun c => if g (108 + 21 * c) = x then nI 1 else nI 0) (i + 1) = sumN (fun c => if g (108 + 21 * c) = x then nI 1 else nI 0) i + (if g (108 + 21 * i) = x then nI 1 else nI 0) := rfl
        refine r_cast dX2_cutFrom_25 (by first | assumption | (simp only [kd_sI, kd_sR, kd_sA, kd_sQ, kd_sL, kd_sD, ln_sI, ln_sR, ln_sA, ln_sQ, ln_sL, ln_sD, gI_sR, gI_sA, gI_sQ, gI_sL, gI_sD, gR_sI, gR_sA, gR_sQ, gR_sL, gR_sD, gA_sI, gA_sR, gA_sQ, gA_sL, gA_sD, gQ_sI, gQ_sR, gQ_sA, gQ_sL, gQ_sD, gL_sI, gL_sR, gL_sA, gL_sQ, gL_sD]; assumption) | simp [kd_sI, kd_sR, kd_sA, kd_sQ, kd_sL, kd_sD, ln_sI, ln_sR, ln_sA, ln_sQ, ln_sL, ln_sD, gI_sR, gI_sA, gI_sQ, gI_sL, gI_sD, gR_sI, gR_sA, gR_sQ, gR_sL, gR_sD, gA_sI, gA_sR, gA_sQ, gA_sL, gA_sD, gQ_sI, gQ_sR, gQ_sA, gQ_sL, gQ_sD, gL_sI, gL_sR, gL_sA, gL_sQ, gL_sD, kd_nO, kd_nA, *]) (T := TX5) (N := 7) rfl q1222 (Or.inl rfl) ?_
        refine r_astore dX2_cutFrom_28 (Nat.le_of_ble_eq_true rfl) (by simp only [lset]; rfl) ?_
        refine r_iload_n (i := 2) dX2_cutFrom_30 rfl rfl ?_
        refine r_aload dX2_cutFrom_31 rfl ?_
        refine r_getI dX2_cutFrom_33 fR_X2_265 (by first | assumption | (simp only [kd_sI, kd_sR, kd_sA, kd_sQ, kd_sL, kd_sD, ln_sI, ln_sR, ln_sA, ln_sQ, ln_sL, ln_sD, gI_sR, gI_sA, gI_sQ, gI_sL, gI_sD, gR_sI, gR_sA, gR_sQ, gR_sL, gR_sD, gA_sI, gA_sR, gA_sQ, gA_sL, gA_sD, gQ_sI, gQ_sR, gQ_sA, gQ_sL, gQ_sD, gL_sI, gL_sR, gL_sA, gL_sQ, gL_sD]; assumption) | simp [kd_sI, kd_sR, kd_sA, kd_sQ, kd_sL, kd_sD, ln_sI, ln_sR, ln_sA, ln_sQ, ln_sL, ln_sD, gI_sR, gI_sA, gI_sQ, gI_sL, gI_sD, gR_sI, gR_sA, gR_sQ, gR_sL, gR_sD, gA_sI, gA_sR, gA_sQ, gA_sL, gA_sD, gQ_sI, gQ_sR, gQ_sA, gQ_sL, gQ_sD, gL_sI, gL_sR, gL_sA, gL_sQ, gL_sD, kd_nO, kd_nA, *]) (by first | assumption | exact gI_sIs | exact gR_sRs | with_reducible rfl | (simp only [kd_sI, kd_sR, kd_sA, kd_sQ, kd_sL, kd_sD, ln_sI, ln_sR, ln_sA, ln_sQ, ln_sL, ln_sD, gI_sR, gI_sA, gI_sQ, gI_sL, gI_sD, gR_sI, gR_sA, gR_sQ, gR_sL, gR_sD, gA_sI, gA_sR, gA_sQ, gA_sL, gA_sD, gQ_sI, gQ_sR, gQ_sA, gQ_sL, gQ_sD, gL_sI, gL_sR, gL_sA, gL_sQ, gL_sD]; first | done | assumption | with_reducible rfl) | rfl) ?_
        refine r_iload_n (i := 1) dX2_cutFrom_36 rfl rfl ?_
        refine r_icmp_ne (tgt := 44) dX2_cutFrom_37 (by decide) (fun h37 => ?_) (fun h37 => ?_)
        · rw [if_neg (by simpa using h37)] at hs
          refine r_iconst (v := nI 0) dX2_cutFrom_44 (by decide) ?_
          refine r_iadd dX2_cutFrom_45 ?_
          try simp only [nI_add]
          refine r_istore_n (i := 2) dX2_cutFrom_46 rfl (Nat.le_of_ble_eq_true rfl) (by simp only [lset]; rfl) ?_
          refine r_goto (tgt := 10) dX2_cutFrom_47 (by decide) ?_
          rw [show sumN (fun c => if g (108 + 21 * c) = x then nI 1 else nI 0) i + nI 0 = sumN (fun c => if g (108 + 21 * c) = x then nI 1 else nI 0) (i + 1) from hs.symm]
          exact ih (i + 1) _ _ H3 _ (by omega) hK3' ⟨hI3, hI.2⟩
        · rw [if_pos (by simpa using h37)] at hs
          refine r_iconst (v := nI 1) dX2_cutFrom_40 (by decide) ?_
          refine r_goto (tgt := 45) dX2_cutFrom_41 (by decide) ?_
          refine r_iadd dX2_cutFrom_45 ?_
          try simp only [nI_add]
          refine r_istore_n (i := 2) dX2_cutFrom_46 rfl (Nat.le_of_ble_eq_true rfl) (by simp only [lset]; rfl) ?_
          refine r_goto (tgt := 10) dX2_cutFrom_47 (by decide) ?_
          rw [show sumN (fun c => if g (108 + 21 * c) = x then nI 1 else nI 0) i + nI 1 = sumN (fun c => if g (108 + 21 * c) = x then nI 1 else nI 0) (i + 1) from hs.symm]
          exact ih (i + 1) _ _ H3 _ (by omega) hK3' ⟨hI3, hI.2⟩
  exact loop (nat g 101) 0 _ _ H1 _ (by omega) hK1 ⟨hI1, hit⟩
theorem pl_routeLength {c : Nat} (hd : 3 ≤ d) (hW : PW G H p A g eT ty eR tr tc tf tu eC ca rl re st eD dr) (hI9 : IG g) (hc : c < nat g 101) (hQ : ∀ H', Ks (fun _ => False) H H' → Qr (some (vI (q_len g c))) H') : AMet G d 1 4 yX2_routeLength wX2_routeLength H [vR (some p), vR (some (ca c))] Qr Qx := by
  obtain ⟨w1, w8, w9, w10, w11, w12, w13, w14, w15⟩ := hW.1
  have hB := hI9.1
  have h40 := hB.2.1.2
  have h101 := hB.2.2.1.2
  have h354 := hB.2.2.2.1.2
  have h3 := hB.1.2
  have h7 := (hB.2.2.2.2.2 c hc).2.1.2
  have kc := (hW.2.2.2.1.2 c hc).1.1
  have rc9 := (hW.2.2.2.1.2 c hc).1.2.2.2.2.2.2.2
  refine AMet.of (M := mX2_routeLength) (maxL := 5) (by first | rfl | decide +kernel) rfl (Nat.le_of_ble_eq_true rfl) ?_
  show AW mX2_routeLength _ _ _ _ _ _ _ 0 [some (vR (some p)), some (vR (some (ca c))), none, none, none] []
  have kr := ((hW.2.2.2.1.2 c hc).2.2.2.1).1
  refine r_iconst (v := nI 0) dX2_routeLength_0 (by decide) ?_
  refine r_istore_n (i := 2) dX2_routeLength_1 rfl (Nat.le_of_ble_eq_true rfl) (by simp only [lset]; rfl) ?_
  refine r_aload_n (i := 1) dX2_routeLength_2 rfl rfl ?_
  refine r_getR dX2_routeLength_3 fR_X2_225 (by first | assumption | (simp only [kd_sI, kd_sR, kd_sA, kd_sQ, kd_sL, kd_sD, ln_sI, ln_sR, ln_sA, ln_sQ, ln_sL, ln_sD, gI_sR, gI_sA, gI_sQ, gI_sL, gI_sD, gR_sI, gR_sA, gR_sQ, gR_sL, gR_sD, gA_sI, gA_sR, gA_sQ, gA_sL, gA_sD, gQ_sI, gQ_sR, gQ_sA, gQ_sL, gQ_sD, gL_sI, gL_sR, gL_sA, gL_sQ, gL_sD]; assumption) | simp [kd_sI, kd_sR, kd_sA, kd_sQ, kd_sL, kd_sD, ln_sI, ln_sR, ln_sA, ln_sQ, ln_sL, ln_sD, gI_sR, gI_sA, gI_sQ, gI_sL, gI_sD, gR_sI, gR_sA, gR_sQ, gR_sL, gR_sD, gA_sI, gA_sR, gA_sQ, gA_sL, gA_sD, gQ_sI, gQ_sR, gQ_sA, gQ_sL, gQ_sD, gL_sI, gL_sR, gL_sA, gL_sQ, gL_sD, kd_nO, kd_nA, *]) (by first | assumption | exact gI_sIs | exact gR_sRs | with_reducible rfl | (simp only [kd_sI, kd_sR, kd_sA, kd_sQ, kd_sL, kd_sD, ln_sI, ln_sR, ln_sA, ln_sQ, ln_sL, ln_sD, gI_sR, gI_sA, gI_sQ, gI_sL, gI_sD, gR_sI, gR_sA, gR_sQ, gR_sL, gR_sD, gA_sI, gA_sR, gA_sQ, gA_sL, gA_sD, gQ_sI, gQ_sR, gQ_sA, gQ_sL, gQ_sD, gL_sI, gL_sR, gL_sA, gL_sQ, gL_sD]; first | done | assumption | with_reducible rfl) | rfl) ?_
  refine r_callV (As := []) (mc' := 1) (ms' := 4) dX2_routeLength_6 k_X2_42 rfl (by first | assumption | (simp only [kd_sI, kd_sR, kd_sA, kd_sQ, kd_sL, kd_sD, ln_sI, ln_sR, ln_sA, ln_sQ, ln_sL, ln_sD, gI_sR, gI_sA, gI_sQ, gI_sL, gI_sD, gR_sI, gR_sA, gR_sQ, gR_sL, gR_sD, gA_sI, gA_sR, gA_sQ, gA_sL, gA_sD, gQ_sI, gQ_sR, gQ_sA, gQ_sL, gQ_sD, gL_sI, gL_sR, gL_sA, gL_sQ, gL_sD]; assumption) | simp [kd_sI, kd_sR, kd_sA, kd_sQ, kd_sL, kd_sD, ln_sI, ln_sR, ln_sA, ln_sQ, ln_sL, ln_sD, gI_sR, gI_sA, gI_sQ, gI_sL, gI_sD, gR_sI, gR_sA, gR_sQ, gR_sL, gR_sD, gA_sI, gA_sR, gA_sQ, gA_sL, gA_sD, gQ_sI, gQ_sR, gQ_sA, gQ_sL, gQ_sD, gL_sI, gL_sR, gL_sA, gL_sQ, gL_sD, kd_nO, kd_nA, *]) (T := TJ2) (N := 3) rfl (by first | assumption | omega) (by first | assumption | omega) (by first | assumption | omega) (Nat.le_of_ble_eq_true rfl) ?_
  refine s_iterator (by omega) kr (fun H1 it hit hK1 hI1 => ?_)
  show AW mX2_routeLength G d Qr Qx _ _ H1 9 _ _
  refine r_astore_n (i := 3) dX2_routeLength_9 rfl (Nat.le_of_ble_eq_true rfl) (by simp only [lset]; rfl) ?_
  have loop : ∀ (k i rc rs : Nat) (H2 : AH) (l : Option AV) , i + k = nat g (106 + 21 * c) → Ks (fun _ => False) H H2 → (ItS H2 it (rl c) i ∧ kd H it = 0) → AW mX2_routeLength G d Qr Qx rc rs H2 10 [some (vR (some p)), some (vR (some (ca c))), some (vI (sumN (fun k => g (43 + 5 * nat g (109 + 21 * c + k))) i)), some (vR (some it)), l] [] := by
    intro k
    induction k with
    | zero =>
      intro i rc rs H2 l hi hK hI
      have hW2 := hW.k0 hK
      have ki := hI.1.1
      have hin : i = nat g (106 + 21 * c) := by omega
      refine r_aload_n (i := 3) dX2_routeLength_10 rfl rfl ?_
      refine r_callF (As := []) (mc' := 0) (ms' := 0) dX2_routeLength_11 k_X2_46_J14 rfl (by first | assumption | (simp only [kd_sI, kd_sR, kd_sA, kd_sQ, kd_sL, kd_sD, ln_sI, ln_sR, ln_sA, ln_sQ, ln_sL, ln_sD, gI_sR, gI_sA, gI_sQ, gI_sL, gI_sD, gR_sI, gR_sA, gR_sQ, gR_sL, gR_sD, gA_sI, gA_sR, gA_sQ, gA_sL, gA_sD, gQ_sI, gQ_sR, gQ_sA, gQ_sL, gQ_sD, gL_sI, gL_sR, gL_sA, gL_sQ, gL_sD]; assumption) | simp [kd_sI, kd_sR, kd_sA, kd_sQ, kd_sL, kd_sD, ln_sI, ln_sR, ln_sA, ln_sQ, ln_sL, ln_sD, gI_sR, gI_sA, gI_sQ, gI_sL, gI_sD, gR_sI, gR_sA, gR_sQ, gR_sL, gR_sD, gA_sI, gA_sR, gA_sQ, gA_sL, gA_sD, gQ_sI, gQ_sR, gQ_sA, gQ_sL, gQ_sD, gL_sI, gL_sR, gL_sA, gL_sQ, gL_sD, kd_nO, kd_nA, *]) (T := TJ14) (N := 4) rfl (by first | assumption | omega) (by first | assumption | omega) (by first | assumption | omega) (Nat.le_of_ble_eq_true rfl) ?_
      refine s_hasNext hI.1 ((hW2.2.2.2.1.2 c hc).2.2.2.1).1 ((hW2.2.2.2.1.2 c hc).2.2.2.1).2.1 (by omega) (by omega) ?_
      rw [if_pos (by omega)]
      refine r_if_eq (tgt := 54) dX2_routeLength_16 (by decide) (fun h16 => ?_) (fun h16 => ?_)
      · refine r_iload_n (i := 2) dX2_routeLength_54 rfl rfl ?_
        refine r_ireturn dX2_routeLength_55 rfl (by first | rfl | assumption | exact vp_nar_int _ | exact pk_nc _) ?_
        unfold q_len at hQ
        rw [← hin] at hQ
        exact hQ H2 hK
      · exact absurd rfl h16
    | succ k ih =>
      intro i rc rs H2 l hi hK hI
      have hW2 := hW.k0 hK
      have ki := hI.1.1
      refine r_aload_n (i := 3) dX2_routeLength_10 rfl rfl ?_
      refine r_callF (As := []) (mc' := 0) (ms' := 0) dX2_routeLength_11 k_X2_46_J14 rfl (by first | assumption | (simp only [kd_sI, kd_sR, kd_sA, kd_sQ, kd_sL, kd_sD, ln_sI, ln_sR, ln_sA, ln_sQ, ln_sL, ln_sD, gI_sR, gI_sA, gI_sQ, gI_sL, gI_sD, gR_sI, gR_sA, gR_sQ, gR_sL, gR_sD, gA_sI, gA_sR, gA_sQ, gA_sL, gA_sD, gQ_sI, gQ_sR, gQ_sA, gQ_sL, gQ_sD, gL_sI, gL_sR, gL_sA, gL_sQ, gL_sD]; assumption) | simp [kd_sI, kd_sR, kd_sA, kd_sQ, kd_sL, kd_sD, ln_sI, ln_sR, ln_sA, ln_sQ, ln_sL, ln_sD, gI_sR, gI_sA, gI_sQ, gI_sL, gI_sD, gR_sI, gR_sA, gR_sQ, gR_sL, gR_sD, gA_sI, gA_sR, gA_sQ, gA_sL, gA_sD, gQ_sI, gQ_sR, gQ_sA, gQ_sL, gQ_sD, gL_sI, gL_sR, gL_sA, gL_sQ, gL_sD, kd_nO, kd_nA, *]) (T := TJ14) (N := 4) rfl (by first | assumption | omega) (by first | assumption | omega) (by first | assumption | omega) (Nat.le_of_ble_eq_true rfl) ?_
      refine s_hasNext hI.1 ((hW2.2.2.2.1.2 c hc).2.2.2.1).1 ((hW2.2.2.2.1.2 c hc).2.2.2.1).2.1 (by omega) (by omega) ?_
      rw [if_neg (by omega)]
      refine r_if_eq (tgt := 54) dX2_routeLength_16 (by decide) (fun h16 => ?_) (fun h16 => ?_)
      · exact absurd h16 (by decide)
      · refine r_aload_n (i := 3) dX2_routeLength_19 rfl rfl ?_
        refine r_callF (As := []) (mc' := 0) (ms' := 0) dX2_routeLength_20 k_X2_52_J14 rfl (by first | assumption | (simp only [kd_sI, kd_sR, kd_sA, kd_sQ, kd_sL, kd_sD, ln_sI, ln_sR, ln_sA, ln_sQ, ln_sL, ln_sD, gI_sR, gI_sA, gI_sQ, gI_sL, gI_sD, gR_sI, gR_sA, gR_sQ, gR_sL, gR_sD, gA_sI, gA_sR, gA_sQ, gA_sL, gA_sD, gQ_sI, gQ_sR, gQ_sA, gQ_sL, gQ_sD, gL_sI, gL_sR, gL_sA, gL_sQ, gL_sD]; assumption) | simp [kd_sI, kd_sR, kd_sA, kd_sQ, kd_sL, kd_sD, ln_sI, ln_sR, ln_sA, ln_sQ, ln_sL, ln_sD, gI_sR, gI_sA, gI_sQ, gI_sL, gI_sD, gR_sI, gR_sA, gR_sQ, gR_sL, gR_sD, gA_sI, gA_sR, gA_sQ, gA_sL, gA_sD, gQ_sI, gQ_sR, gQ_sA, gQ_sL, gQ_sD, gL_sI, gL_sR, gL_sA, gL_sQ, gL_sD, kd_nO, kd_nA, *]) (T := TJ14) (N := 4) rfl (by first | assumption | omega) (by first | assumption | omega) (by first | assumption | omega) (Nat.le_of_ble_eq_true rfl) ?_
        refine s_next (by omega) hI.1 ((hW2.2.2.2.1.2 c hc).2.2.2.1) (by omega) (by omega) (fun H3 hK3 hI3 => ?_)
        have hK3' : Ks (fun _ => False) H H3 := hK.tr2 hK3 (fun a ha e => by rw [e] at ha; exact ha hI.2)
        have hW3 := hW.k0 hK3'
        show AW mX2_routeLength G d Qr Qx _ _ H3 25 _ _
        have hr := hW3.2.2.2.1.2 c hc
        obtain ⟨s1, s2, s3⟩ := hr.2.2.2.2 i (by omega)
        obtain ⟨t1, t2⟩ := (hB.2.2.2.2.2 c hc).2.2 i (by omega)
        have s33 : gI H3 33 (st c i) = nI (nat g (109 + 21 * c + i)) := by rw [s2, cv_at c (109 + 21 * c + i) (by omega)]; exact t1
        have hL3 := hW3.2.2.1.1
        have krL := hL3.1
        have hTi := hW3.2.2.1.2 _ t2
        have kti := hTi.1
        have f18 : gI H3 18 (tr (nat g (109 + 21 * c + i))) = g (43 + 5 * nat g (109 + 21 * c + i)) := hTi.2.2.2.1
        have p1 := hW3.1.1
        have p10 := hW3.1.2.2.2.1
        refine r_cast dX2_routeLength_25 (by first | assumption | (simp only [kd_sI, kd_sR, kd_sA, kd_sQ, kd_sL, kd_sD, ln_sI, ln_sR, ln_sA, ln_sQ, ln_sL, ln_sD, gI_sR, gI_sA, gI_sQ, gI_sL, gI_sD, gR_sI, gR_sA, gR_sQ, gR_sL, gR_sD, gA_sI, gA_sR, gA_sQ, gA_sL, gA_sD, gQ_sI, gQ_sR, gQ_sA, gQ_sL, gQ_sD, gL_sI, gL_sR, gL_sA, gL_sQ, gL_sD]; assumption) | simp [kd_sI, kd_sR, kd_sA, kd_sQ, kd_sL, kd_sD, ln_sI, ln_sR, ln_sA, ln_sQ, ln_sL, ln_sD, gI_sR, gI_sA, gI_sQ, gI_sL, gI_sD, gR_sI, gR_sA, gR_sQ, gR_sL, gR_sD, gA_sI, gA_sR, gA_sQ, gA_sL, gA_sD, gQ_sI, gQ_sR, gQ_sA, gQ_sL, gQ_sD, gL_sI, gL_sR, gL_sA, gL_sQ, gL_sD, kd_nO, kd_nA, *]) (T := TX7) (N := 2) rfl q1231 (Or.inl rfl) ?_
        refine r_astore dX2_routeLength_28 (Nat.le_of_ble_eq_true rfl) (by simp only [lset]; rfl) ?_
        refine r_iload_n (i := 2) dX2_routeLength_30 rfl rfl ?_
        refine r_aload_n (i := 0) dX2_routeLength_31 rfl rfl ?_
        refine r_getR dX2_routeLength_32 fR_X2_25 (by first | assumption | (simp only [kd_sI, kd_sR, kd_sA, kd_sQ, kd_sL, kd_sD, ln_sI, ln_sR, ln_sA, ln_sQ, ln_sL, ln_sD, gI_sR, gI_sA, gI_sQ, gI_sL, gI_sD, gR_sI, gR_sA, gR_sQ, gR_sL, gR_sD, gA_sI, gA_sR, gA_sQ, gA_sL, gA_sD, gQ_sI, gQ_sR, gQ_sA, gQ_sL, gQ_sD, gL_sI, gL_sR, gL_sA, gL_sQ, gL_sD]; assumption) | simp [kd_sI, kd_sR, kd_sA, kd_sQ, kd_sL, kd_sD, ln_sI, ln_sR, ln_sA, ln_sQ, ln_sL, ln_sD, gI_sR, gI_sA, gI_sQ, gI_sL, gI_sD, gR_sI, gR_sA, gR_sQ, gR_sL, gR_sD, gA_sI, gA_sR, gA_sQ, gA_sL, gA_sD, gQ_sI, gQ_sR, gQ_sA, gQ_sL, gQ_sD, gL_sI, gL_sR, gL_sA, gL_sQ, gL_sD, kd_nO, kd_nA, *]) (by first | assumption | exact gI_sIs | exact gR_sRs | with_reducible rfl | (simp only [kd_sI, kd_sR, kd_sA, kd_sQ, kd_sL, kd_sD, ln_sI, ln_sR, ln_sA, ln_sQ, ln_sL, ln_sD, gI_sR, gI_sA, gI_sQ, gI_sL, gI_sD, gR_sI, gR_sA, gR_sQ, gR_sL, gR_sD, gA_sI, gA_sR, gA_sQ, gA_sL, gA_sD, gQ_sI, gQ_sR, gQ_sA, gQ_sL, gQ_sD, gL_sI, gL_sR, gL_sA, gL_sQ, gL_sD]; first | done | assumption | with_reducible rfl) | rfl) ?_
        refine r_aload dX2_routeLength_35 rfl ?_
        refine r_getI dX2_routeLength_37 fR_X2_254 (by first | assumption | (simp only [kd_sI, kd_sR, kd_sA, kd_sQ, kd_sL, kd_sD, ln_sI, ln_sR, ln_sA, ln_sQ, ln_sL, ln_sD, gI_sR, gI_sA, gI_sQ, gI_sL, gI_sD, gR_sI, gR_sA, gR_sQ, gR_sL, gR_sD, gA_sI, gA_sR, gA_sQ, gA_sL, gA_sD, gQ_sI, gQ_sR, gQ_sA, gQ_sL, gQ_sD, gL_sI, gL_sR, gL_sA, gL_sQ, gL_sD]; assumption) | simp [kd_sI, kd_sR, kd_sA, kd_sQ, kd_sL, kd_sD, ln_sI, ln_sR, ln_sA, ln_sQ, ln_sL, ln_sD, gI_sR, gI_sA, gI_sQ, gI_sL, gI_sD, gR_sI, gR_sA, gR_sQ, gR_sL, gR_sD, gA_sI, gA_sR, gA_sQ, gA_sL, gA_sD, gQ_sI, gQ_sR, gQ_sA, gQ_sL, gQ_sD, gL_sI, gL_sR, gL_sA, gL_sQ, gL_sD, kd_nO, kd_nA, *]) (by first | assumption | exact gI_sIs | exact gR_sRs | with_reducible rfl | (simp only [kd_sI, kd_sR, kd_sA, kd_sQ, kd_sL, kd_sD, ln_sI, ln_sR, ln_sA, ln_sQ, ln_sL, ln_sD, gI_sR, gI_sA, gI_sQ, gI_sL, gI_sD, gR_sI, gR_sA, gR_sQ, gR_sL, gR_sD, gA_sI, gA_sR, gA_sQ, gA_sL, gA_sD, gQ_sI, gQ_sR, gQ_sA, gQ_sL, gQ_sD, gL_sI, gL_sR, gL_sA, gL_sQ, gL_sD]; first | done | assumption | with_reducible rfl) | rfl) ?_
        refine r_callV (As := [_]) (mc' := 0) (ms' := 0) dX2_routeLength_40 k_X2_110 rfl (by first | assumption | (simp only [kd_sI, kd_sR, kd_sA, kd_sQ, kd_sL, kd_sD, ln_sI, ln_sR, ln_sA, ln_sQ, ln_sL, ln_sD, gI_sR, gI_sA, gI_sQ, gI_sL, gI_sD, gR_sI, gR_sA, gR_sQ, gR_sL, gR_sD, gA_sI, gA_sR, gA_sQ, gA_sL, gA_sD, gQ_sI, gQ_sR, gQ_sA, gQ_sL, gQ_sD, gL_sI, gL_sR, gL_sA, gL_sQ, gL_sD]; assumption) | simp [kd_sI, kd_sR, kd_sA, kd_sQ, kd_sL, kd_sD, ln_sI, ln_sR, ln_sA, ln_sQ, ln_sL, ln_sD, gI_sR, gI_sA, gI_sQ, gI_sL, gI_sD, gR_sI, gR_sA, gR_sQ, gR_sL, gR_sD, gA_sI, gA_sR, gA_sQ, gA_sL, gA_sD, gQ_sI, gQ_sR, gQ_sA, gQ_sL, gQ_sD, gL_sI, gL_sR, gL_sA, gL_sQ, gL_sD, kd_nO, kd_nA, *]) (T := TJ2) (N := 3) rfl (by first | assumption | omega) (by first | assumption | omega) (by first | assumption | omega) (Nat.le_of_ble_eq_true rfl) ?_
        refine s_get (by omega) hL3 t2 (by omega) ?_
        show AW mX2_routeLength G d Qr Qx _ _ H3 43 _ _
        refine r_cast dX2_routeLength_43 (by first | assumption | (simp only [kd_sI, kd_sR, kd_sA, kd_sQ, kd_sL, kd_sD, ln_sI, ln_sR, ln_sA, ln_sQ, ln_sL, ln_sD, gI_sR, gI_sA, gI_sQ, gI_sL, gI_sD, gR_sI, gR_sA, gR_sQ, gR_sL, gR_sD, gA_sI, gA_sR, gA_sQ, gA_sL, gA_sD, gQ_sI, gQ_sR, gQ_sA, gQ_sL, gQ_sD, gL_sI, gL_sR, gL_sA, gL_sQ, gL_sD]; assumption) | simp [kd_sI, kd_sR, kd_sA, kd_sQ, kd_sL, kd_sD, ln_sI, ln_sR, ln_sA, ln_sQ, ln_sL, ln_sD, gI_sR, gI_sA, gI_sQ, gI_sL, gI_sD, gR_sI, gR_sA, gR_sQ, gR_sL, gR_sD, gA_sI, gA_sR, gA_sQ, gA_sL, gA_sD, gQ_sI, gQ_sR, gQ_sA, gQ_sL, gQ_sD, gL_sI, gL_sR, gL_sA, gL_sQ, gL_sD, kd_nO, kd_nA, *]) (T := TX4) (N := 7) rfl q1233 (Or.inl rfl) ?_
        refine r_getI dX2_routeLength_46 fR_X2_277 (by first | assumption | (simp only [kd_sI, kd_sR, kd_sA, kd_sQ, kd_sL, kd_sD, ln_sI, ln_sR, ln_sA, ln_sQ, ln_sL, ln_sD, gI_sR, gI_sA, gI_sQ, gI_sL, gI_sD, gR_sI, gR_sA, gR_sQ, gR_sL, gR_sD, gA_sI, gA_sR, gA_sQ, gA_sL, gA_sD, gQ_sI, gQ_sR, gQ_sA, gQ_sL, gQ_sD, gL_sI, gL_sR, gL_sA, gL_sQ, gL_sD]; assumption) | simp [kd_sI, kd_sR, kd_sA, kd_sQ, kd_sL, kd_sD, ln_sI, ln_sR, ln_sA, ln_sQ, ln_sL, ln_sD, gI_sR, gI_sA, gI_sQ, gI_sL, gI_sD, gR_sI, gR_sA, gR_sQ, gR_sL, gR_sD, gA_sI, gA_sR, gA_sQ, gA_sL, gA_sD, gQ_sI, gQ_sR, gQ_sA, gQ_sL, gQ_sD, gL_sI, gL_sR, gL_sA, gL_sQ, gL_sD, kd_nO, kd_nA, *]) (by first | assumption | exact gI_sIs | exact gR_sRs | with_reducible rfl | (simp only [kd_sI, kd_sR, kd_sA, kd_sQ, kd_sL, kd_sD, ln_sI, ln_sR, ln_sA, ln_sQ, ln_sL, ln_sD, gI_sR, gI_sA, gI_sQ, gI_sL, gI_sD, gR_sI, gR_sA, gR_sQ, gR_sL, gR_sD, gA_sI, gA_sR, gA_sQ, gA_sL, gA_sD, gQ_sI, gQ_sR, gQ_sA, gQ_sL, gQ_sD, gL_sI, gL_sR, gL_sA, gL_sQ, gL_sD]; first | done | assumption | with_reducible rfl) | rfl) ?_
        refine r_iadd dX2_routeLength_49 ?_
        try simp only [nI_add]
        refine r_istore_n (i := 2) dX2_routeLength_50 rfl (Nat.le_of_ble_eq_true rfl) (by simp only [lset]; rfl) ?_
        refine r_goto (tgt := 10) dX2_routeLength_51 (by decide) ?_
        exact ih (i + 1) _ _ H3 _ (by omega) hK3' ⟨hI3, hI.2⟩
  exact loop (nat g (106 + 21 * c)) 0 _ _ H1 _ (by omega) hK1 ⟨hI1, hit⟩
/-- what a cable needs -/
def ndF (g : Nat → Int32) (c : Nat) : Int32 := if g (105 + 21 * c) = 0 then nI 0 else if g (105 + 21 * c) = nI 2 then g (107 + 21 * c) else q_need g c
theorem pl_needed {c : Nat} (hd : 4 ≤ d) (hW : PW G H p A g eT ty eR tr tc tf tu eC ca rl re st eD dr) (hI9 : IG g) (hc : c < nat g 101) (hQ : ∀ H', Ks (fun _ => False) H H' → Qr (some (vI (ndF g c))) H') : AMet G d 1 4 yX2_needed wX2_needed H [vR (some p), vR (some (ca c))] Qr Qx := by
  have hx := hW.2.2.2.1.2 c hc
  have kx := hx.1.1
  have f26 : gI H 26 (ca c) = g (105 + 21 * c) := hx.1.2.2.2.2.1.trans (cv_at c _ (by omega))
  have f28 : gI H 28 (ca c) = g (107 + 21 * c) := hx.1.2.2.2.2.2.1.trans (cv_at c _ (by omega))
  have p1 := hW.1.1
  unfold ndF at hQ
  refine AMet.of (M := mX2_needed) (maxL := 2) (by first | rfl | decide +kernel) rfl (Nat.le_of_ble_eq_true rfl) ?_
  show AW mX2_needed _ _ _ _ _ _ _ 0 [some (vR (some p)), some (vR (some (ca c)))] []
  refine r_aload_n (i := 1) dX2_needed_0 rfl rfl ?_
  refine r_getI dX2_needed_1 fR_X2_211 (by first | assumption | (simp only [kd_sI, kd_sR, kd_sA, kd_sQ, kd_sL, kd_sD, ln_sI, ln_sR, ln_sA, ln_sQ, ln_sL, ln_sD, gI_sR, gI_sA, gI_sQ, gI_sL, gI_sD, gR_sI, gR_sA, gR_sQ, gR_sL, gR_sD, gA_sI, gA_sR, gA_sQ, gA_sL, gA_sD, gQ_sI, gQ_sR, gQ_sA, gQ_sL, gQ_sD, gL_sI, gL_sR, gL_sA, gL_sQ, gL_sD]; assumption) | simp [kd_sI, kd_sR, kd_sA, kd_sQ, kd_sL, kd_sD, ln_sI, ln_sR, ln_sA, ln_sQ, ln_sL, ln_sD, gI_sR, gI_sA, gI_sQ, gI_sL, gI_sD, gR_sI, gR_sA, gR_sQ, gR_sL, gR_sD, gA_sI, gA_sR, gA_sQ, gA_sL, gA_sD, gQ_sI, gQ_sR, gQ_sA, gQ_sL, gQ_sD, gL_sI, gL_sR, gL_sA, gL_sQ, gL_sD, kd_nO, kd_nA, *]) (by first | assumption | exact gI_sIs | exact gR_sRs | with_reducible rfl | (simp only [kd_sI, kd_sR, kd_sA, kd_sQ, kd_sL, kd_sD, ln_sI, ln_sR, ln_sA, ln_sQ, ln_sL, ln_sD, gI_sR, gI_sA, gI_sQ, gI_sL, gI_sD, gR_sI, gR_sA, gR_sQ, gR_sL, gR_sD, gA_sI, gA_sR, gA_sQ, gA_sL, gA_sD, gQ_sI, gQ_sR, gQ_sA, gQ_sL, gQ_sD, gL_sI, gL_sR, gL_sA, gL_sQ, gL_sD]; first | done | assumption | with_reducible rfl) | rfl) ?_
  refine r_if_ne (tgt := 11) dX2_needed_4 (by decide) (fun h4 => ?_) (fun h4 => ?_)
  · have h0 : ¬ g (105 + 21 * c) = 0 := h4
    rw [if_neg h0] at hQ
    refine r_aload_n (i := 1) dX2_needed_11 rfl rfl ?_
    refine r_getI dX2_needed_12 fR_X2_211 (by first | assumption | (simp only [kd_sI, kd_sR, kd_sA, kd_sQ, kd_sL, kd_sD, ln_sI, ln_sR, ln_sA, ln_sQ, ln_sL, ln_sD, gI_sR, gI_sA, gI_sQ, gI_sL, gI_sD, gR_sI, gR_sA, gR_sQ, gR_sL, gR_sD, gA_sI, gA_sR, gA_sQ, gA_sL, gA_sD, gQ_sI, gQ_sR, gQ_sA, gQ_sL, gQ_sD, gL_sI, gL_sR, gL_sA, gL_sQ, gL_sD]; assumption) | simp [kd_sI, kd_sR, kd_sA, kd_sQ, kd_sL, kd_sD, ln_sI, ln_sR, ln_sA, ln_sQ, ln_sL, ln_sD, gI_sR, gI_sA, gI_sQ, gI_sL, gI_sD, gR_sI, gR_sA, gR_sQ, gR_sL, gR_sD, gA_sI, gA_sR, gA_sQ, gA_sL, gA_sD, gQ_sI, gQ_sR, gQ_sA, gQ_sL, gQ_sD, gL_sI, gL_sR, gL_sA, gL_sQ, gL_sD, kd_nO, kd_nA, *]) (by first | assumption | exact gI_sIs | exact gR_sRs | with_reducible rfl | (simp only [kd_sI, kd_sR, kd_sA, kd_sQ, kd_sL, kd_sD, ln_sI, ln_sR, ln_sA, ln_sQ, ln_sL, ln_sD, gI_sR, gI_sA, gI_sQ, gI_sL, gI_sD, gR_sI, gR_sA, gR_sQ, gR_sL, gR_sD, gA_sI, gA_sR, gA_sQ, gA_sL, gA_sD, gQ_sI, gQ_sR, gQ_sA, gQ_sL, gQ_sD, gL_sI, gL_sR, gL_sA, gL_sQ, gL_sD]; first | done | assumption | with_reducible rfl) | rfl) ?_
    refine r_iconst (v := nI 2) dX2_needed_15 (by decide) ?_
    refine r_icmp_ne (tgt := 26) dX2_needed_16 (by decide) (fun h16 => ?_) (fun h16 => ?_)
    · have h2 : ¬ g (105 + 21 * c) = nI 2 := h16
      rw [if_neg h2] at hQ
      refine r_aload_n (i := 0) dX2_needed_26 rfl rfl ?_
      refine r_aload_n (i := 1) dX2_needed_27 rfl rfl ?_
      refine r_callV (As := [_]) (mc' := 1) (ms' := 4) dX2_needed_28 k_X2_278 rfl (by first | assumption | (simp only [kd_sI, kd_sR, kd_sA, kd_sQ, kd_sL, kd_sD, ln_sI, ln_sR, ln_sA, ln_sQ, ln_sL, ln_sD, gI_sR, gI_sA, gI_sQ, gI_sL, gI_sD, gR_sI, gR_sA, gR_sQ, gR_sL, gR_sD, gA_sI, gA_sR, gA_sQ, gA_sL, gA_sD, gQ_sI, gQ_sR, gQ_sA, gQ_sL, gQ_sD, gL_sI, gL_sR, gL_sA, gL_sQ, gL_sD]; assumption) | simp [kd_sI, kd_sR, kd_sA, kd_sQ, kd_sL, kd_sD, ln_sI, ln_sR, ln_sA, ln_sQ, ln_sL, ln_sD, gI_sR, gI_sA, gI_sQ, gI_sL, gI_sD, gR_sI, gR_sA, gR_sQ, gR_sL, gR_sD, gA_sI, gA_sR, gA_sQ, gA_sL, gA_sD, gQ_sI, gQ_sR, gQ_sA, gQ_sL, gQ_sD, gL_sI, gL_sR, gL_sA, gL_sQ, gL_sD, kd_nO, kd_nA, *]) (T := TX2) (N := 8) rfl (by first | assumption | omega) (by first | assumption | omega) (by first | assumption | omega) (Nat.le_of_ble_eq_true rfl) ?_
      refine pl_routeLength (by omega) hW hI9 hc (fun H' hK => ?_)
      have hW' := hW.k0 hK
      have q1 := hW'.1.1
      have q14 := hW'.1.2.2.2.2.2.2.2.1
      show AW mX2_needed G d Qr Qx _ _ H' 31 _ _
      refine r_iconst (v := nI 2) dX2_needed_31 (by decide) ?_
      refine r_aload_n (i := 0) dX2_needed_32 rfl rfl ?_
      refine r_getI dX2_needed_33 fR_X2_38 (by first | assumption | (simp only [kd_sI, kd_sR, kd_sA, kd_sQ, kd_sL, kd_sD, ln_sI, ln_sR, ln_sA, ln_sQ, ln_sL, ln_sD, gI_sR, gI_sA, gI_sQ, gI_sL, gI_sD, gR_sI, gR_sA, gR_sQ, gR_sL, gR_sD, gA_sI, gA_sR, gA_sQ, gA_sL, gA_sD, gQ_sI, gQ_sR, gQ_sA, gQ_sL, gQ_sD, gL_sI, gL_sR, gL_sA, gL_sQ, gL_sD]; assumption) | simp [kd_sI, kd_sR, kd_sA, kd_sQ, kd_sL, kd_sD, ln_sI, ln_sR, ln_sA, ln_sQ, ln_sL, ln_sD, gI_sR, gI_sA, gI_sQ, gI_sL, gI_sD, gR_sI, gR_sA, gR_sQ, gR_sL, gR_sD, gA_sI, gA_sR, gA_sQ, gA_sL, gA_sD, gQ_sI, gQ_sR, gQ_sA, gQ_sL, gQ_sD, gL_sI, gL_sR, gL_sA, gL_sQ, gL_sD, kd_nO, kd_nA, *]) (by first | assumption | exact gI_sIs | exact gR_sRs | with_reducible rfl | (simp only [kd_sI, kd_sR, kd_sA, kd_sQ, kd_sL, kd_sD, ln_sI, ln_sR, ln_sA, ln_sQ, ln_sL, ln_sD, gI_sR, gI_sA, gI_sQ, gI_sL, gI_sD, gR_sI, gR_sA, gR_sQ, gR_sL, gR_sD, gA_sI, gA_sR, gA_sQ, gA_sL, gA_sD, gQ_sI, gQ_sR, gQ_sA, gQ_sL, gQ_sD, gL_sI, gL_sR, gL_sA, gL_sQ, gL_sD]; first | done | assumption | with_reducible rfl) | rfl) ?_
      refine r_imul dX2_needed_36 ?_
      refine r_iadd dX2_needed_37 ?_
      try simp only [nI_add]
      refine r_ireturn dX2_needed_38 rfl (by first | rfl | assumption | exact vp_nar_int _ | exact pk_nc _) ?_
      exact hQ H' hK
    · have h2 : g (105 + 21 * c) = nI 2 := by simpa using h16
      rw [if_pos h2] at hQ
      refine r_aload_n (i := 1) dX2_needed_19 rfl rfl ?_
      refine r_getI dX2_needed_20 fR_X2_268 (by first | assumption | (simp only [kd_sI, kd_sR, kd_sA, kd_sQ, kd_sL, kd_sD, ln_sI, ln_sR, ln_sA, ln_sQ, ln_sL, ln_sD, gI_sR, gI_sA, gI_sQ, gI_sL, gI_sD, gR_sI, gR_sA, gR_sQ, gR_sL, gR_sD, gA_sI, gA_sR, gA_sQ, gA_sL, gA_sD, gQ_sI, gQ_sR, gQ_sA, gQ_sL, gQ_sD, gL_sI, gL_sR, gL_sA, gL_sQ, gL_sD]; assumption) | simp [kd_sI, kd_sR, kd_sA, kd_sQ, kd_sL, kd_sD, ln_sI, ln_sR, ln_sA, ln_sQ, ln_sL, ln_sD, gI_sR, gI_sA, gI_sQ, gI_sL, gI_sD, gR_sI, gR_sA, gR_sQ, gR_sL, gR_sD, gA_sI, gA_sR, gA_sQ, gA_sL, gA_sD, gQ_sI, gQ_sR, gQ_sA, gQ_sL, gQ_sD, gL_sI, gL_sR, gL_sA, gL_sQ, gL_sD, kd_nO, kd_nA, *]) (by first | assumption | exact gI_sIs | exact gR_sRs | with_reducible rfl | (simp only [kd_sI, kd_sR, kd_sA, kd_sQ, kd_sL, kd_sD, ln_sI, ln_sR, ln_sA, ln_sQ, ln_sL, ln_sD, gI_sR, gI_sA, gI_sQ, gI_sL, gI_sD, gR_sI, gR_sA, gR_sQ, gR_sL, gR_sD, gA_sI, gA_sR, gA_sQ, gA_sL, gA_sD, gQ_sI, gQ_sR, gQ_sA, gQ_sL, gQ_sD, gL_sI, gL_sR, gL_sA, gL_sQ, gL_sD]; first | done | assumption | with_reducible rfl) | rfl) ?_
      refine r_goto (tgt := 38) dX2_needed_23 (by decide) ?_
      refine r_ireturn dX2_needed_38 rfl (by first | rfl | assumption | exact vp_nar_int _ | exact pk_nc _) ?_
      exact hQ H Ks.rf
  · have h0 : g (105 + 21 * c) = 0 := by simpa using h4
    rw [if_pos h0] at hQ
    refine r_iconst (v := nI 0) dX2_needed_7 (by decide) ?_
    refine r_goto (tgt := 38) dX2_needed_8 (by decide) ?_
    refine r_ireturn dX2_needed_38 rfl (by first | rfl | assumption | exact vp_nar_int _ | exact pk_nc _) ?_
    exact hQ H Ks.rf
end View
