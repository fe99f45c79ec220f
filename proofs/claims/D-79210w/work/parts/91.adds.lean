set_option maxRecDepth 100000
/-! A PLAN GROWS -/
section Adds
variable {G : Gl} {d : Nat} {Qr : Option AV → AH → Prop} {Qx : String → Nat → AH → Prop} {H : AH} {O : Nat → Nat} {p t : Nat} {A : PA} {g : Nat → Int32}
theorem IsP.of (h0 : 1 ≤ t) {g' : Nat → Int32} (h1 : PlF H O (8 * t + 1) p A.ty A.M A.tr A.ca A.dr (g' 0) (g' 1) (g' 2)) (h2 : TyS G H O (8 * t + 2) A.ty A.M (nat g' 3) g') (h3 : TrS G H O (8 * t + 3) A.tr (nat g' 40) (tvOf g')) (h4 : CaS G H O (8 * t + 4) A.ca (nat g' 101) (cvOf g')) (h5 : DrS G H O (8 * t + 5) A.dr (nat g' 354) (dvOf g')) : IsP G H O t p A g' := ⟨h0, h1, h2, h3, h4, h5⟩
/-- types said of another g -/
theorem TyS.to {l L M n : Nat} {g' : Nat → Int32} (h : TyS G H O l L M n g) (hY : GY g) (hn : n = nat g 3) (ha : Ag g g' 4 (4 + 6 * n)) : TyS G H O l L M n g' := by
  obtain ⟨e, ty, nm, nd, h⟩ := h
  exact ⟨e, ty, nm, nd, h.to (fun y hy => by have := (hY.1 y (by omega)).1.2; unfold nmL; omega) (fun y i hy hi => ha _ (by omega) (by omega))⟩
theorem TrS.to {l L n : Nat} {tv tv' : Nat → TV} (h : TrS G H O l L n tv) (hv : ∀ t, t < n → tv' t = tv t) : TrS G H O l L n tv' := by
  obtain ⟨e, tr, tc, tf, tu, h⟩ := h
  exact ⟨e, tr, tc, tf, tu, h.to hv⟩
theorem CaS.to {l L n : Nat} {cv cv' : Nat → Nat → Int32} (h : CaS G H O l L n cv) (hv : ∀ c k, c < n → k < 21 → cv' c k = cv c k) : CaS G H O l L n cv' := by
  obtain ⟨e, ca, rl, re, st, h⟩ := h
  exact ⟨e, ca, rl, re, st, h.to hv⟩
theorem DrS.to {l L n : Nat} {dv dv' : Nat → Nat → Int32} (h : DrS G H O l L n dv) (hv : ∀ x k, x < n → k < 3 → dv' x k = dv x k) : DrS G H O l L n dv' := by
  obtain ⟨e, dr, h⟩ := h
  exact ⟨e, dr, h.to hv⟩
theorem pl_addTray {x y l a k : Int32} (hd : 8 ≤ d) (hP : IsP G H O t p A g) (hI : IG g) (hQ : c_addTray g x y l a k = 0 → ∀ H' O', Stq G (fun b => O b / 8 = t) H O H' O' → IsPlan G H' O' t p (trayG g x y l a k) → Qr (some (vI (nI (nat g 40)))) H') (hX1 : c_addTray g x y l a k = 1 → ∀ q, Qx "java/lang/IndexOutOfBoundsException" q H) (hX2 : c_addTray g x y l a k = 2 → ∀ q, Qx "java/lang/IllegalArgumentException" q H) (hX3 : c_addTray g x y l a k = 3 → ∀ q, Qx "java/lang/IllegalStateException" q H) : AMet G d 9 62 yX2_addTray wX2_addTray H [vR (some p), vI x, vI y, vI l, vI a, vI k] Qr Qx := by
  have hB := hI.1
  have hYY := hI.2.2.2.2.2.2.2.1
  obtain ⟨h0, h1, h2, ⟨e, tr, tc, tf, tu, h3⟩, h4, h5⟩ := hP
  obtain ⟨⟨p1, p8, p9, p10, p11, p12, p13, p14, p15⟩, pO⟩ := h1
  have h40 := hB.2.1.2
  have kr := h3.1.1
  obtain ⟨n, hn⟩ : ∃ n, nat g 40 = n := ⟨_, rfl⟩
  obtain ⟨cc, hcc⟩ : ∃ cc, c_addTray g x y l a k = cc := ⟨_, rfl⟩
  rw [hcc] at hQ hX1 hX2 hX3
  unfold c_addTray at hcc
  refine AMet.of (M := mX2_addTray) (maxL := 7) (by first | rfl | decide +kernel) rfl (Nat.le_of_ble_eq_true rfl) ?_
  show AW mX2_addTray _ _ _ _ _ _ _ 0 [some (vR (some p)), some (vI x), some (vI y), some (vI l), some (vI a), some (vI k), none] []
  refine r_iload_n (i := 1) dX2_addTray_0 rfl rfl ?_
  refine r_callSN (As := [_]) (mc' := 1) (ms' := 6) dX2_addTray_1 k_X2_137 rfl (by first | assumption | omega) (by first | assumption | omega) (by first | assumption | omega) (Nat.le_of_ble_eq_true rfl) ?_
  refine s_checkPlace (by omega) (fun hx => ?_) (fun hx q => x_out (by decide) (hX1 (by rw [← hcc, hx]; rfl) q))
  show AW mX2_addTray G d Qr Qx _ _ H 4 _ _
  refine r_iload_n (i := 2) dX2_addTray_4 rfl rfl ?_
  refine r_callSN (As := [_]) (mc' := 1) (ms' := 6) dX2_addTray_5 k_X2_137 rfl (by first | assumption | omega) (by first | assumption | omega) (by first | assumption | omega) (Nat.le_of_ble_eq_true rfl) ?_
  refine s_checkPlace (by omega) (fun hy => ?_) (fun hy q => x_out (by decide) (hX1 (by rw [← hcc, hx, hy]; rfl) q))
  rw [hx, hy, if_neg (by decide)] at hcc
  show AW mX2_addTray G d Qr Qx _ _ H 8 _ _
  obtain ⟨b0, hc⟩ : ∃ b0, (!(decide (x = y)) && inB l (nI 1) (nI 99) && inB a (nI 10) (nI 999) && inB k (nI 1) (nI 3)) = b0 := ⟨_, rfl⟩
  have hcb : (x = y ∨ (inB l (nI 1) (nI 99) && inB a (nI 10) (nI 999) && inB k (nI 1) (nI 3)) = false) ↔ b0 = false := by
    rw [← hc]
    by_cases e : x = y <;> simp [e, Bool.and_assoc]
  simp only [hcb] at hcc
  have chk : ∀ b, b0 = b → AW mX2_addTray G d Qr Qx 7 50 H 58 [some (vR (some p)), some (vI x), some (vI y), some (vI l), some (vI a), some (vI k), none] [vI (bI b)] := by
    intro b hb
    refine r_callSN (As := [_]) (mc' := 1) (ms' := 6) dX2_addTray_58 k_X2_124 rfl (by first | assumption | omega) (by first | assumption | omega) (by first | assumption | omega) (Nat.le_of_ble_eq_true rfl) ?_
    refine s_checkArgument (by omega) (fun hb1 => ?_) (fun hb1 q => x_out (by decide) (hX2 (by rw [← hcc, hb, hb1, if_pos rfl]) q))
    have hb2 : b0 = true := hb.trans hb1
    have hgood : x ≠ y ∧ inB l (nI 1) (nI 99) = true ∧ inB a (nI 10) (nI 999) = true ∧ inB k (nI 1) (nI 3) = true := by
      rw [hb2] at hc
      simp only [Bool.and_eq_true, Bool.not_eq_true', decide_eq_false_iff_not] at hc
      exact ⟨hc.1.1.1, hc.1.1.2, hc.1.2, hc.2⟩
    rw [hb2, if_neg (by decide), hn] at hcc
    show AW mX2_addTray G d Qr Qx _ _ H 61 _ _
    refine r_aload_n (i := 0) dX2_addTray_61 rfl rfl ?_
    refine r_getR dX2_addTray_62 fR_X2_25 (by first | assumption | (simp only [kd_sI, kd_sR, kd_sA, kd_sQ, kd_sL, kd_sD, ln_sI, ln_sR, ln_sA, ln_sQ, ln_sL, ln_sD, gI_sR, gI_sA, gI_sQ, gI_sL, gI_sD, gR_sI, gR_sA, gR_sQ, gR_sL, gR_sD, gA_sI, gA_sR, gA_sQ, gA_sL, gA_sD, gQ_sI, gQ_sR, gQ_sA, gQ_sL, gQ_sD, gL_sI, gL_sR, gL_sA, gL_sQ, gL_sD]; assumption) | simp [kd_sI, kd_sR, kd_sA, kd_sQ, kd_sL, kd_sD, ln_sI, ln_sR, ln_sA, ln_sQ, ln_sL, ln_sD, gI_sR, gI_sA, gI_sQ, gI_sL, gI_sD, gR_sI, gR_sA, gR_sQ, gR_sL, gR_sD, gA_sI, gA_sR, gA_sQ, gA_sL, gA_sD, gQ_sI, gQ_sR, gQ_sA, gQ_sL, gQ_sD, gL_sI, gL_sR, gL_sA, gL_sQ, gL_sD, kd_nO, kd_nA, *]) (by first | assumption | exact gI_sIs | exact gR_sRs | with_reducible rfl | (simp only [kd_sI, kd_sR, kd_sA, kd_sQ, kd_sL, kd_sD, ln_sI, ln_sR, ln_sA, ln_sQ, ln_sL, ln_sD, gI_sR, gI_sA, gI_sQ, gI_sL, gI_sD, gR_sI, gR_sA, gR_sQ, gR_sL, gR_sD, gA_sI, gA_sR, gA_sQ, gA_sL, gA_sD, gQ_sI, gQ_sR, gQ_sA, gQ_sL, gQ_sD, gL_sI, gL_sR, gL_sA, gL_sQ, gL_sD]; first | done | assumption | with_reducible rfl) | rfl) ?_
    refine r_callV (As := []) (mc' := 0) (ms' := 0) dX2_addTray_65 k_X2_88 rfl (by first | assumption | (simp only [kd_sI, kd_sR, kd_sA, kd_sQ, kd_sL, kd_sD, ln_sI, ln_sR, ln_sA, ln_sQ, ln_sL, ln_sD, gI_sR, gI_sA, gI_sQ, gI_sL, gI_sD, gR_sI, gR_sA, gR_sQ, gR_sL, gR_sD, gA_sI, gA_sR, gA_sQ, gA_sL, gA_sD, gQ_sI, gQ_sR, gQ_sA, gQ_sL, gQ_sD, gL_sI, gL_sR, gL_sA, gL_sQ, gL_sD]; assumption) | simp [kd_sI, kd_sR, kd_sA, kd_sQ, kd_sL, kd_sD, ln_sI, ln_sR, ln_sA, ln_sQ, ln_sL, ln_sD, gI_sR, gI_sA, gI_sQ, gI_sL, gI_sD, gR_sI, gR_sA, gR_sQ, gR_sL, gR_sD, gA_sI, gA_sR, gA_sQ, gA_sL, gA_sD, gQ_sI, gQ_sR, gQ_sA, gQ_sL, gQ_sD, gL_sI, gL_sR, gL_sA, gL_sQ, gL_sD, kd_nO, kd_nA, *]) (T := TJ2) (N := 3) rfl (by first | assumption | omega) (by first | assumption | omega) (by first | assumption | omega) (Nat.le_of_ble_eq_true rfl) ?_
    refine s_size h3.1.1 h3.1.2.1 ?_
    rw [hn]
    show AW mX2_addTray G d Qr Qx _ _ H 68 _ _
    have st : ∀ b, decide (n < 12) = b → AW mX2_addTray G d Qr Qx 6 44 H 78 [some (vR (some p)), some (vI x), some (vI y), some (vI l), some (vI a), some (vI k), none] [vI (bI b)] := by
      intro b hb
      refine r_callSN (As := [_]) (mc' := 1) (ms' := 6) dX2_addTray_78 k_X2_131 rfl (by first | assumption | omega) (by first | assumption | omega) (by first | assumption | omega) (Nat.le_of_ble_eq_true rfl) ?_
      refine s_checkState (by omega) (fun hb1 => ?_) (fun hb1 q => x_out (by decide) (hX3 (by
        rw [hb1, decide_eq_false_iff_not] at hb
        rw [← hcc, if_pos (by omega)]) q))
      rw [hb1, decide_eq_true_iff] at hb
      rw [if_neg (by omega)] at hcc
      obtain ⟨k9, hk1, hk3, rfl⟩ := inB_1 hgood.2.2.2 (by omega) (by omega)
      show AW mX2_addTray G d Qr Qx _ _ H 81 _ _
      refine r_aload_n (i := 0) dX2_addTray_81 rfl rfl ?_
      refine r_getR dX2_addTray_82 fR_X2_25 (by first | assumption | (simp only [kd_sI, kd_sR, kd_sA, kd_sQ, kd_sL, kd_sD, ln_sI, ln_sR, ln_sA, ln_sQ, ln_sL, ln_sD, gI_sR, gI_sA, gI_sQ, gI_sL, gI_sD, gR_sI, gR_sA, gR_sQ, gR_sL, gR_sD, gA_sI, gA_sR, gA_sQ, gA_sL, gA_sD, gQ_sI, gQ_sR, gQ_sA, gQ_sL, gQ_sD, gL_sI, gL_sR, gL_sA, gL_sQ, gL_sD]; assumption) | simp [kd_sI, kd_sR, kd_sA, kd_sQ, kd_sL, kd_sD, ln_sI, ln_sR, ln_sA, ln_sQ, ln_sL, ln_sD, gI_sR, gI_sA, gI_sQ, gI_sL, gI_sD, gR_sI, gR_sA, gR_sQ, gR_sL, gR_sD, gA_sI, gA_sR, gA_sQ, gA_sL, gA_sD, gQ_sI, gQ_sR, gQ_sA, gQ_sL, gQ_sD, gL_sI, gL_sR, gL_sA, gL_sQ, gL_sD, kd_nO, kd_nA, *]) (by first | assumption | exact gI_sIs | exact gR_sRs | with_reducible rfl | (simp only [kd_sI, kd_sR, kd_sA, kd_sQ, kd_sL, kd_sD, ln_sI, ln_sR, ln_sA, ln_sQ, ln_sL, ln_sD, gI_sR, gI_sA, gI_sQ, gI_sL, gI_sD, gR_sI, gR_sA, gR_sQ, gR_sL, gR_sD, gA_sI, gA_sR, gA_sQ, gA_sL, gA_sD, gQ_sI, gQ_sR, gQ_sA, gQ_sL, gQ_sD, gL_sI, gL_sR, gL_sA, gL_sQ, gL_sD]; first | done | assumption | with_reducible rfl) | rfl) ?_
      refine r_new dX2_addTray_85 cT_X4 q1233 q1443 q118 (by decide +kernel) (by first | assumption | omega) (by first | assumption | omega) (fun q85 hq85 => ?_)
      have hq : kd H q85 = 0 := hq85
      refine AW.name (fun H1 hH1 => ?_)
      have hK1 : Ks (fun _ => False) H H1 := by rw [hH1]; exact Ks.rf.nO hq
      have kq : kd H1 q85 = 3 := by rw [hH1, kd_nO, if_pos rfl]
      refine r_dup dX2_addTray_88 rfl ?_
      refine r_iload_n (i := 1) dX2_addTray_89 rfl rfl ?_
      refine r_iload_n (i := 2) dX2_addTray_90 rfl rfl ?_
      refine r_iload_n (i := 3) dX2_addTray_91 rfl rfl ?_
      refine r_iload dX2_addTray_92 rfl ?_
      refine r_iload dX2_addTray_94 rfl ?_
      refine r_callI (As := [_, _, _, _, _]) (mc' := 3) (ms' := (3 * k9)) dX2_addTray_96 k_X2_147 rfl (by first | assumption | omega) (by first | assumption | omega) (by first | assumption | omega) (Nat.le_of_ble_eq_true rfl) ?_
      refine c_trayInit (by omega) kq (by omega) (by omega) (fun H2 c f u hK2 hc2 hf2 hu2 hT2 => ?_)
      refine AW.st0 (fun z2 => ?_)
      have hK12 : Ks (fun _ => False) H H2 := hK1.tr2 hK2 (fun a ha e => by rw [e] at ha; exact ha hq)
      have s2 : Stq G (fun _ => False) H O H2 (rlb O H (8 * t + 3)) := Stq.rl _ hK12 z2
      have x2 := h3.ks s2 (fun _ _ h => h.elim)
      rw [hn] at x2
      obtain ⟨v1, v2, v3, v4, v5⟩ := tray_v (p := x) (q := y) (l := l) (a := a) (k := nI k9) hB (by omega)
      rw [hn] at v2 v3 v4 v5
      have x3 := x2.to v5
      have kr2 := x3.1.1
      have fc : ∀ {b}, kd H1 b = 0 → kd H b = 0 := fun h => hK1.fr h
      have i2 := h2.ks s2 (fun _ _ h => h.elim)
      have i4 := h4.ks s2 (fun _ _ h => h.elim)
      have i5 := h5.ks s2 (fun _ _ h => h.elim)
      obtain ⟨⟨r1, r8, r9, r10, r11, r12, r13, r14, r15⟩, rO⟩ := (PlF.ks ⟨⟨p1, p8, p9, p10, p11, p12, p13, p14, p15⟩, pO⟩ s2 (fun _ _ h => h.elim) : PlF H2 _ (8 * t + 1) p A.ty A.M A.tr A.ca A.dr (g 0) (g 1) (g 2))
      show AW mX2_addTray G d Qr Qx _ _ H2 99 _ _
      refine r_callV (As := [_]) (mc' := 1) (ms' := 22) dX2_addTray_99 k_X2_68 rfl (by first | assumption | (simp only [kd_sI, kd_sR, kd_sA, kd_sQ, kd_sL, kd_sD, ln_sI, ln_sR, ln_sA, ln_sQ, ln_sL, ln_sD, gI_sR, gI_sA, gI_sQ, gI_sL, gI_sD, gR_sI, gR_sA, gR_sQ, gR_sL, gR_sD, gA_sI, gA_sR, gA_sQ, gA_sL, gA_sD, gQ_sI, gQ_sR, gQ_sA, gQ_sL, gQ_sD, gL_sI, gL_sR, gL_sA, gL_sQ, gL_sD]; assumption) | simp [kd_sI, kd_sR, kd_sA, kd_sQ, kd_sL, kd_sD, ln_sI, ln_sR, ln_sA, ln_sQ, ln_sL, ln_sD, gI_sR, gI_sA, gI_sQ, gI_sL, gI_sD, gR_sI, gR_sA, gR_sQ, gR_sL, gR_sD, gA_sI, gA_sR, gA_sQ, gA_sL, gA_sD, gQ_sI, gQ_sR, gQ_sA, gQ_sL, gQ_sD, gL_sI, gL_sR, gL_sA, gL_sQ, gL_sD, kd_nO, kd_nA, *]) (T := TJ2) (N := 3) rfl (by first | assumption | omega) (by first | assumption | omega) (by first | assumption | omega) (Nat.le_of_ble_eq_true rfl) ?_
      refine s_add (by omega) x3.1 (by omega) (Or.inl ⟨by rw [hT2.1]; decide, by rw [hT2.1]; decide⟩) (fun H3 e3 hK3 he3 hL3 => ?_)
      refine AW.st0 (fun z3 => ?_)
      have hTn : TrO H2 q85 c f u (tvOf (trayG g x y l a (nI k9)) n) := by
        rw [v4, show (nI k9).toNatClampNeg = k9 from nI_clamp (by omega)]
        exact hT2
      obtain ⟨s3, x4⟩ := x3.add z2 (by omega) hK3 he3 hL3 z3 hTn (rlb_f hq) (rlb_f (fc hc2)) (rlb_f (fc hf2)) (rlb_f (fc hu2)) (fun j hj => by
        obtain ⟨n1, n2, n3, n4⟩ := (h3.2.2.2.1 j (by omega)).1.nz
        exact ⟨fun e => n2 (by rw [e]; exact fc hc2), fun e => n3 (by rw [e]; exact fc hf2), fun e => n4 (by rw [e]; exact fc hu2)⟩)
      obtain ⟨O3, hO3⟩ : ∃ O3, O3 = rlb (rlb O H (8 * t + 3)) H2 (8 * t + 3) := ⟨_, rfl⟩
      rw [← hO3] at s3 x4
      have s23 : Stq G (fun b => O b / 8 = t) H O H3 O3 := (s2.mono (fun _ _ h => h.elim)).tr2 s3 (fun b hb q => by rw [s2.2.1 b hb] at q; omega)
      have f3 := PlF.ks ⟨⟨r1, r8, r9, r10, r11, r12, r13, r14, r15⟩, rO⟩ s3 (fun b _ e => by omega)
      obtain ⟨⟨w1, w8, w9, w10, w11, w12, w13, w14, w15⟩, wO⟩ := f3
      have kr4 := x4.1.1
      show AW mX2_addTray G d Qr Qx _ _ H3 102 _ _
      refine r_istore dX2_addTray_102 (Nat.le_of_ble_eq_true rfl) (by simp only [lset]; rfl) ?_
      refine r_aload_n (i := 0) dX2_addTray_104 rfl rfl ?_
      refine r_getR dX2_addTray_105 fR_X2_25 (by first | assumption | (simp only [kd_sI, kd_sR, kd_sA, kd_sQ, kd_sL, kd_sD, ln_sI, ln_sR, ln_sA, ln_sQ, ln_sL, ln_sD, gI_sR, gI_sA, gI_sQ, gI_sL, gI_sD, gR_sI, gR_sA, gR_sQ, gR_sL, gR_sD, gA_sI, gA_sR, gA_sQ, gA_sL, gA_sD, gQ_sI, gQ_sR, gQ_sA, gQ_sL, gQ_sD, gL_sI, gL_sR, gL_sA, gL_sQ, gL_sD]; assumption) | simp [kd_sI, kd_sR, kd_sA, kd_sQ, kd_sL, kd_sD, ln_sI, ln_sR, ln_sA, ln_sQ, ln_sL, ln_sD, gI_sR, gI_sA, gI_sQ, gI_sL, gI_sD, gR_sI, gR_sA, gR_sQ, gR_sL, gR_sD, gA_sI, gA_sR, gA_sQ, gA_sL, gA_sD, gQ_sI, gQ_sR, gQ_sA, gQ_sL, gQ_sD, gL_sI, gL_sR, gL_sA, gL_sQ, gL_sD, kd_nO, kd_nA, *]) (by first | assumption | exact gI_sIs | exact gR_sRs | with_reducible rfl | (simp only [kd_sI, kd_sR, kd_sA, kd_sQ, kd_sL, kd_sD, ln_sI, ln_sR, ln_sA, ln_sQ, ln_sL, ln_sD, gI_sR, gI_sA, gI_sQ, gI_sL, gI_sD, gR_sI, gR_sA, gR_sQ, gR_sL, gR_sD, gA_sI, gA_sR, gA_sQ, gA_sL, gA_sD, gQ_sI, gQ_sR, gQ_sA, gQ_sL, gQ_sD, gL_sI, gL_sR, gL_sA, gL_sQ, gL_sD]; first | done | assumption | with_reducible rfl) | rfl) ?_
      refine r_callV (As := []) (mc' := 0) (ms' := 0) dX2_addTray_108 k_X2_88 rfl (by first | assumption | (simp only [kd_sI, kd_sR, kd_sA, kd_sQ, kd_sL, kd_sD, ln_sI, ln_sR, ln_sA, ln_sQ, ln_sL, ln_sD, gI_sR, gI_sA, gI_sQ, gI_sL, gI_sD, gR_sI, gR_sA, gR_sQ, gR_sL, gR_sD, gA_sI, gA_sR, gA_sQ, gA_sL, gA_sD, gQ_sI, gQ_sR, gQ_sA, gQ_sL, gQ_sD, gL_sI, gL_sR, gL_sA, gL_sQ, gL_sD]; assumption) | simp [kd_sI, kd_sR, kd_sA, kd_sQ, kd_sL, kd_sD, ln_sI, ln_sR, ln_sA, ln_sQ, ln_sL, ln_sD, gI_sR, gI_sA, gI_sQ, gI_sL, gI_sD, gR_sI, gR_sA, gR_sQ, gR_sL, gR_sD, gA_sI, gA_sR, gA_sQ, gA_sL, gA_sD, gQ_sI, gQ_sR, gQ_sA, gQ_sL, gQ_sD, gL_sI, gL_sR, gL_sA, gL_sQ, gL_sD, kd_nO, kd_nA, *]) (T := TJ2) (N := 3) rfl (by first | assumption | omega) (by first | assumption | omega) (by first | assumption | omega) (Nat.le_of_ble_eq_true rfl) ?_
      refine s_size x4.1.1 x4.1.2.1 ?_
      show AW mX2_addTray G d Qr Qx _ _ H3 111 _ _
      refine r_iconst (v := nI 1) dX2_addTray_111 (by decide) ?_
      refine r_isub dX2_addTray_112 ?_
      refine r_ireturn dX2_addTray_113 rfl (by first | rfl | assumption | exact vp_nar_int _ | exact pk_nc _) ?_
      rw [nI_sub (by omega), Nat.add_sub_cancel]
      rw [hn] at hQ
      refine hQ hcc.symm H3 O3 s23 ⟨A, IsP.of h0 ?_ ?_ ?_ ?_ ?_⟩
      · rw [v3 0 (by omega) (by omega), v3 1 (by omega) (by omega), v3 2 (by omega) (by omega)]
        exact ⟨⟨w1, w8, w9, w10, w11, w12, w13, w14, w15⟩, wO⟩
      · have e3 : nat (trayG g x y l a (nI k9)) 3 = nat g 3 := nat_eq (v3 3 (by omega) (by omega))
        rw [e3]
        have h6 := hB.1.2
        exact (i2.ks s3 (fun b _ q => ⟨by omega, by omega, fun k => by omega⟩)).to hYY rfl (fun i h1 h2 => v3 i (by omega) (by omega))
      · rw [v2]
        exact ⟨_, _, _, _, _, x4⟩
      · have e3 : nat (trayG g x y l a (nI k9)) 101 = nat g 101 := nat_eq (v3 101 (by omega) (by omega))
        rw [e3]
        exact (i4.ks s3 (fun b _ q => ⟨by omega, by omega⟩)).to (fun c k _ _ => v3 _ (by omega) (by omega))
      · have e3 : nat (trayG g x y l a (nI k9)) 354 = nat g 354 := nat_eq (v3 354 (by omega) (by omega))
        rw [e3]
        exact (i5.ks s3 (fun b _ q => by omega)).to (fun c k _ _ => v3 _ (by omega) (by omega))
    refine r_bipush (v := nI 12) dX2_addTray_68 (by decide) ?_
    refine r_icmp_ge (tgt := 77) dX2_addTray_70 (by decide) (fun h70 => ?_) (fun h70 => ?_)
    · refine r_iconst (v := nI 0) dX2_addTray_77 (by decide) ?_
      have := (nI_leI (by omega) (by omega)).mp h70
      exact st false (decide_eq_false (by omega))
    · refine r_iconst (v := nI 1) dX2_addTray_73 (by decide) ?_
      refine r_goto (tgt := 78) dX2_addTray_74 (by decide) ?_
      have : ¬ 12 ≤ n := fun h => h70 (nI_le h (by omega))
      exact st true (decide_eq_true (by omega))
  refine r_iload_n (i := 1) dX2_addTray_8 rfl rfl ?_
  refine r_iload_n (i := 2) dX2_addTray_9 rfl rfl ?_
  refine r_icmp_eq (tgt := 57) dX2_addTray_10 (by decide) (fun h10 => ?_) (fun h10 => ?_)
  · refine r_iconst (v := nI 0) dX2_addTray_57 (by decide) ?_
    have e : x = y := h10
    exact chk false (by rw [← hc]; simp [e])
  · have hxy : decide (x = y) = false := decide_eq_false h10
    rw [hxy] at hc
    refine r_iload_n (i := 3) dX2_addTray_13 rfl rfl ?_
    refine r_i2l dX2_addTray_14 ?_
    refine r_lconst dX2_addTray_15 rfl ?_
    refine r_ldc2 dX2_addTray_16 q1722 ?_
    refine r_callSN (As := [_, _, _]) (mc' := 0) (ms' := 0) dX2_addTray_19 k_X2_102 rfl (by first | assumption | omega) (by first | assumption | omega) (by first | assumption | omega) (Nat.le_of_ble_eq_true rfl) ?_
    refine s_inRange (a := nI 1) (b := nI 99) (by decide) (by decide) ?_
    show AW mX2_addTray G d Qr Qx _ _ H 22 _ _
    cases hb19 : inB l (nI 1) (nI 99) with
    | false =>
      rw [hb19] at hc
      refine r_if_eq (tgt := 57) dX2_addTray_22 (by decide) (fun h22 => ?_) (fun h22 => ?_)
      · refine r_iconst (v := nI 0) dX2_addTray_57 (by decide) ?_
        exact chk false (by rw [← hc]; simp)
      · exact absurd rfl h22
    | true =>
      rw [hb19] at hc
      refine r_if_eq (tgt := 57) dX2_addTray_22 (by decide) (fun h22 => ?_) (fun h22 => ?_)
      · exact absurd h22 (by decide)
      · refine r_iload dX2_addTray_25 rfl ?_
        refine r_i2l dX2_addTray_27 ?_
        refine r_ldc2 dX2_addTray_28 q1724 ?_
        refine r_ldc2 dX2_addTray_31 q1725 ?_
        refine r_callSN (As := [_, _, _]) (mc' := 0) (ms' := 0) dX2_addTray_34 k_X2_102 rfl (by first | assumption | omega) (by first | assumption | omega) (by first | assumption | omega) (Nat.le_of_ble_eq_true rfl) ?_
        refine s_inRange (a := nI 10) (b := nI 999) (by decide) (by decide) ?_
        show AW mX2_addTray G d Qr Qx _ _ H 37 _ _
        cases hb34 : inB a (nI 10) (nI 999) with
        | false =>
          rw [hb34] at hc
          refine r_if_eq (tgt := 57) dX2_addTray_37 (by decide) (fun h37 => ?_) (fun h37 => ?_)
          · refine r_iconst (v := nI 0) dX2_addTray_57 (by decide) ?_
            exact chk false (by rw [← hc]; simp)
          · exact absurd rfl h37
        | true =>
          rw [hb34] at hc
          refine r_if_eq (tgt := 57) dX2_addTray_37 (by decide) (fun h37 => ?_) (fun h37 => ?_)
          · exact absurd h37 (by decide)
          · refine r_iload dX2_addTray_40 rfl ?_
            refine r_i2l dX2_addTray_42 ?_
            refine r_lconst dX2_addTray_43 rfl ?_
            refine r_ldc2 dX2_addTray_44 q1726 ?_
            refine r_callSN (As := [_, _, _]) (mc' := 0) (ms' := 0) dX2_addTray_47 k_X2_102 rfl (by first | assumption | omega) (by first | assumption | omega) (by first | assumption | omega) (Nat.le_of_ble_eq_true rfl) ?_
            refine s_inRange (a := nI 1) (b := nI 3) (by decide) (by decide) ?_
            show AW mX2_addTray G d Qr Qx _ _ H 50 _ _
            cases hb47 : inB k (nI 1) (nI 3) with
            | false =>
              rw [hb47] at hc
              refine r_if_eq (tgt := 57) dX2_addTray_50 (by decide) (fun h50 => ?_) (fun h50 => ?_)
              · refine r_iconst (v := nI 0) dX2_addTray_57 (by decide) ?_
                exact chk false (by rw [← hc]; simp)
              · exact absurd rfl h50
            | true =>
              rw [hb47] at hc
              refine r_if_eq (tgt := 57) dX2_addTray_50 (by decide) (fun h50 => ?_) (fun h50 => ?_)
              · exact absurd h50 (by decide)
              · refine r_iconst (v := nI 1) dX2_addTray_53 (by decide) ?_
                refine r_goto (tgt := 58) dX2_addTray_54 (by decide) ?_
                exact chk true (by rw [← hc]; rfl)
theorem pl_addCable {y x z : Int32} (hd : 8 ≤ d) (hP : IsP G H O t p A g) (hI : IG g) (hQ : c_addCable g y x z = 0 → ∀ H' O', Stq G (fun b => O b / 8 = t) H O H' O' → IsPlan G H' O' t p (cableG g y x z) → Qr (some (vI (nI (nat g 101)))) H') (hX1 : c_addCable g y x z = 1 → ∀ q, Qx "java/lang/IndexOutOfBoundsException" q H) (hX2 : c_addCable g y x z = 2 → ∀ q, Qx "java/lang/IllegalArgumentException" q H) (hX3 : c_addCable g y x z = 3 → ∀ q, Qx "java/lang/IllegalStateException" q H) : AMet G d 8 62 yX2_addCable wX2_addCable H [vR (some p), vI y, vI x, vI z] Qr Qx := by
  have hB := hI.1
  have hYY := hI.2.2.2.2.2.2.2.1
  obtain ⟨h0, h1, ⟨eT, ty, nm, nd, h2⟩, h3, ⟨e, ca, rl, re, st, h4⟩, h5⟩ := hP
  obtain ⟨⟨p1, p8, p9, p10, p11, p12, p13, p14, p15⟩, pO⟩ := h1
  have h101 := hB.2.2.1.2
  have h40 := hB.2.1.2
  have g3n := hB.1.1
  have h36 := hB.1.2
  have kr := h4.1.1
  obtain ⟨n, hn⟩ : ∃ n, nat g 101 = n := ⟨_, rfl⟩
  obtain ⟨cc, hcc⟩ : ∃ cc, c_addCable g y x z = cc := ⟨_, rfl⟩
  rw [hcc] at hQ hX1 hX2 hX3
  unfold c_addCable isY at hcc
  rw [g3n] at hcc
  refine AMet.of (M := mX2_addCable) (maxL := 6) (by first | rfl | decide +kernel) rfl (Nat.le_of_ble_eq_true rfl) ?_
  show AW mX2_addCable _ _ _ _ _ _ _ 0 [some (vR (some p)), some (vI y), some (vI x), some (vI z), none, none] []
  refine r_aload_n (i := 0) dX2_addCable_0 rfl rfl ?_
  refine r_iload_n (i := 1) dX2_addCable_1 rfl rfl ?_
  refine r_callV (As := [_]) (mc' := 1) (ms' := 6) dX2_addCable_2 k_X2_163 rfl (by first | assumption | (simp only [kd_sI, kd_sR, kd_sA, kd_sQ, kd_sL, kd_sD, ln_sI, ln_sR, ln_sA, ln_sQ, ln_sL, ln_sD, gI_sR, gI_sA, gI_sQ, gI_sL, gI_sD, gR_sI, gR_sA, gR_sQ, gR_sL, gR_sD, gA_sI, gA_sR, gA_sQ, gA_sL, gA_sD, gQ_sI, gQ_sR, gQ_sA, gQ_sL, gQ_sD, gL_sI, gL_sR, gL_sA, gL_sQ, gL_sD]; assumption) | simp [kd_sI, kd_sR, kd_sA, kd_sQ, kd_sL, kd_sD, ln_sI, ln_sR, ln_sA, ln_sQ, ln_sL, ln_sD, gI_sR, gI_sA, gI_sQ, gI_sL, gI_sD, gR_sI, gR_sA, gR_sQ, gR_sL, gR_sD, gA_sI, gA_sR, gA_sQ, gA_sL, gA_sD, gQ_sI, gQ_sR, gQ_sA, gQ_sL, gQ_sD, gL_sI, gL_sR, gL_sA, gL_sQ, gL_sD, kd_nO, kd_nA, *]) (T := TX2) (N := 8) rfl (by first | assumption | omega) (by first | assumption | omega) (by first | assumption | omega) (Nat.le_of_ble_eq_true rfl) ?_
  refine c_ptype (by omega) p1 p8 h2.1 (by omega) (fun i hi => (h2.2.2.2.2.2 i hi).1.1) (fun hyb i0 hi0 _ => ?_) (fun hx q => x_out (by decide) (hX1 (by rw [← hcc, hx]; rfl) q))
  rw [hyb] at hcc
  show AW mX2_addCable G d Qr Qx _ _ H 5 _ _
  refine r_astore dX2_addCable_5 (Nat.le_of_ble_eq_true rfl) (by simp only [lset]; rfl) ?_
  refine r_iload_n (i := 2) dX2_addCable_7 rfl rfl ?_
  refine r_callSN (As := [_]) (mc' := 1) (ms' := 6) dX2_addCable_8 k_X2_137 rfl (by first | assumption | omega) (by first | assumption | omega) (by first | assumption | omega) (Nat.le_of_ble_eq_true rfl) ?_
  refine s_checkPlace (by omega) (fun hx => ?_) (fun hx q => x_out (by decide) (hX1 (by rw [← hcc, hx]; rfl) q))
  show AW mX2_addCable G d Qr Qx _ _ H 11 _ _
  refine r_iload_n (i := 3) dX2_addCable_11 rfl rfl ?_
  refine r_callSN (As := [_]) (mc' := 1) (ms' := 6) dX2_addCable_12 k_X2_137 rfl (by first | assumption | omega) (by first | assumption | omega) (by first | assumption | omega) (Nat.le_of_ble_eq_true rfl) ?_
  refine s_checkPlace (by omega) (fun hy => ?_) (fun hy q => x_out (by decide) (hX1 (by rw [← hcc, hx, hy]; rfl) q))
  rw [hx, hy, if_neg (by decide)] at hcc
  show AW mX2_addCable G d Qr Qx _ _ H 15 _ _
  have chk : ∀ b, (!(decide (x = z))) = b → AW mX2_addCable G d Qr Qx 5 44 H 25 [some (vR (some p)), some (vI y), some (vI x), some (vI z), some (vR (some (ty i0))), none] [vI (bI b)] := by
    intro b hb
    refine r_callSN (As := [_]) (mc' := 1) (ms' := 6) dX2_addCable_25 k_X2_124 rfl (by first | assumption | omega) (by first | assumption | omega) (by first | assumption | omega) (Nat.le_of_ble_eq_true rfl) ?_
    refine s_checkArgument (by omega) (fun hb1 => ?_) (fun hb1 q => x_out (by decide) (hX2 (by
      rw [hb1] at hb
      simp at hb
      rw [← hcc, if_pos hb]) q))
    have hxz : x ≠ z := by
      rw [hb1] at hb
      simpa using hb
    rw [if_neg hxz, hn] at hcc
    show AW mX2_addCable G d Qr Qx _ _ H 28 _ _
    refine r_aload_n (i := 0) dX2_addCable_28 rfl rfl ?_
    refine r_getR dX2_addCable_29 fR_X2_28 (by first | assumption | (simp only [kd_sI, kd_sR, kd_sA, kd_sQ, kd_sL, kd_sD, ln_sI, ln_sR, ln_sA, ln_sQ, ln_sL, ln_sD, gI_sR, gI_sA, gI_sQ, gI_sL, gI_sD, gR_sI, gR_sA, gR_sQ, gR_sL, gR_sD, gA_sI, gA_sR, gA_sQ, gA_sL, gA_sD, gQ_sI, gQ_sR, gQ_sA, gQ_sL, gQ_sD, gL_sI, gL_sR, gL_sA, gL_sQ, gL_sD]; assumption) | simp [kd_sI, kd_sR, kd_sA, kd_sQ, kd_sL, kd_sD, ln_sI, ln_sR, ln_sA, ln_sQ, ln_sL, ln_sD, gI_sR, gI_sA, gI_sQ, gI_sL, gI_sD, gR_sI, gR_sA, gR_sQ, gR_sL, gR_sD, gA_sI, gA_sR, gA_sQ, gA_sL, gA_sD, gQ_sI, gQ_sR, gQ_sA, gQ_sL, gQ_sD, gL_sI, gL_sR, gL_sA, gL_sQ, gL_sD, kd_nO, kd_nA, *]) (by first | assumption | exact gI_sIs | exact gR_sRs | with_reducible rfl | (simp only [kd_sI, kd_sR, kd_sA, kd_sQ, kd_sL, kd_sD, ln_sI, ln_sR, ln_sA, ln_sQ, ln_sL, ln_sD, gI_sR, gI_sA, gI_sQ, gI_sL, gI_sD, gR_sI, gR_sA, gR_sQ, gR_sL, gR_sD, gA_sI, gA_sR, gA_sQ, gA_sL, gA_sD, gQ_sI, gQ_sR, gQ_sA, gQ_sL, gQ_sD, gL_sI, gL_sR, gL_sA, gL_sQ, gL_sD]; first | done | assumption | with_reducible rfl) | rfl) ?_
    refine r_callV (As := []) (mc' := 0) (ms' := 0) dX2_addCable_32 k_X2_88 rfl (by first | assumption | (simp only [kd_sI, kd_sR, kd_sA, kd_sQ, kd_sL, kd_sD, ln_sI, ln_sR, ln_sA, ln_sQ, ln_sL, ln_sD, gI_sR, gI_sA, gI_sQ, gI_sL, gI_sD, gR_sI, gR_sA, gR_sQ, gR_sL, gR_sD, gA_sI, gA_sR, gA_sQ, gA_sL, gA_sD, gQ_sI, gQ_sR, gQ_sA, gQ_sL, gQ_sD, gL_sI, gL_sR, gL_sA, gL_sQ, gL_sD]; assumption) | simp [kd_sI, kd_sR, kd_sA, kd_sQ, kd_sL, kd_sD, ln_sI, ln_sR, ln_sA, ln_sQ, ln_sL, ln_sD, gI_sR, gI_sA, gI_sQ, gI_sL, gI_sD, gR_sI, gR_sA, gR_sQ, gR_sL, gR_sD, gA_sI, gA_sR, gA_sQ, gA_sL, gA_sD, gQ_sI, gQ_sR, gQ_sA, gQ_sL, gQ_sD, gL_sI, gL_sR, gL_sA, gL_sQ, gL_sD, kd_nO, kd_nA, *]) (T := TJ2) (N := 3) rfl (by first | assumption | omega) (by first | assumption | omega) (by first | assumption | omega) (Nat.le_of_ble_eq_true rfl) ?_
    refine s_size h4.1.1 h4.1.2.1 ?_
    rw [hn]
    show AW mX2_addCable G d Qr Qx _ _ H 35 _ _
    have st9 : ∀ b, decide (n < 12) = b → AW mX2_addCable G d Qr Qx 4 38 H 45 [some (vR (some p)), some (vI y), some (vI x), some (vI z), some (vR (some (ty i0))), none] [vI (bI b)] := by
      intro b hb
      refine r_callSN (As := [_]) (mc' := 1) (ms' := 6) dX2_addCable_45 k_X2_131 rfl (by first | assumption | omega) (by first | assumption | omega) (by first | assumption | omega) (Nat.le_of_ble_eq_true rfl) ?_
      refine s_checkState (by omega) (fun hb1 => ?_) (fun hb1 q => x_out (by decide) (hX3 (by
        rw [hb1, decide_eq_false_iff_not] at hb
        rw [← hcc, if_pos (by omega)]) q))
      rw [hb1, decide_eq_true_iff] at hb
      rw [if_neg (by omega)] at hcc
      show AW mX2_addCable G d Qr Qx _ _ H 48 _ _
      refine r_aload_n (i := 0) dX2_addCable_48 rfl rfl ?_
      refine r_getR dX2_addCable_49 fR_X2_28 (by first | assumption | (simp only [kd_sI, kd_sR, kd_sA, kd_sQ, kd_sL, kd_sD, ln_sI, ln_sR, ln_sA, ln_sQ, ln_sL, ln_sD, gI_sR, gI_sA, gI_sQ, gI_sL, gI_sD, gR_sI, gR_sA, gR_sQ, gR_sL, gR_sD, gA_sI, gA_sR, gA_sQ, gA_sL, gA_sD, gQ_sI, gQ_sR, gQ_sA, gQ_sL, gQ_sD, gL_sI, gL_sR, gL_sA, gL_sQ, gL_sD]; assumption) | simp [kd_sI, kd_sR, kd_sA, kd_sQ, kd_sL, kd_sD, ln_sI, ln_sR, ln_sA, ln_sQ, ln_sL, ln_sD, gI_sR, gI_sA, gI_sQ, gI_sL, gI_sD, gR_sI, gR_sA, gR_sQ, gR_sL, gR_sD, gA_sI, gA_sR, gA_sQ, gA_sL, gA_sD, gQ_sI, gQ_sR, gQ_sA, gQ_sL, gQ_sD, gL_sI, gL_sR, gL_sA, gL_sQ, gL_sD, kd_nO, kd_nA, *]) (by first | assumption | exact gI_sIs | exact gR_sRs | with_reducible rfl | (simp only [kd_sI, kd_sR, kd_sA, kd_sQ, kd_sL, kd_sD, ln_sI, ln_sR, ln_sA, ln_sQ, ln_sL, ln_sD, gI_sR, gI_sA, gI_sQ, gI_sL, gI_sD, gR_sI, gR_sA, gR_sQ, gR_sL, gR_sD, gA_sI, gA_sR, gA_sQ, gA_sL, gA_sD, gQ_sI, gQ_sR, gQ_sA, gQ_sL, gQ_sD, gL_sI, gL_sR, gL_sA, gL_sQ, gL_sD]; first | done | assumption | with_reducible rfl) | rfl) ?_
      refine r_new dX2_addCable_52 cT_X5 q1222 q1487 q119 (by decide +kernel) (by first | assumption | omega) (by first | assumption | omega) (fun q52 hq52 => ?_)
      have hq : kd H q52 = 0 := hq52
      refine AW.name (fun H1 hH1 => ?_)
      have hK1 : Ks (fun _ => False) H H1 := by rw [hH1]; exact Ks.rf.nO hq
      have kq : kd H1 q52 = 4 := by rw [hH1, kd_nO, if_pos rfl]
      have kz : gI H1 28 q52 = 0 := by rw [hH1, gI_nO, if_pos rfl]
      refine r_dup dX2_addCable_55 rfl ?_
      refine r_iload_n (i := 1) dX2_addCable_56 rfl rfl ?_
      refine r_iload_n (i := 2) dX2_addCable_57 rfl rfl ?_
      refine r_iload_n (i := 3) dX2_addCable_58 rfl rfl ?_
      refine r_callI (As := [_, _, _]) (mc' := 1) (ms' := 3) dX2_addCable_59 k_X2_167 rfl (by first | assumption | omega) (by first | assumption | omega) (by first | assumption | omega) (Nat.le_of_ble_eq_true rfl) ?_
      refine c_cableInit (st := fun _ => 0) (by omega) kq kz (fun H2 r2 hK2 hr2 hT2 => ?_)
      refine AW.st0 (fun z2 => ?_)
      have hK12 : Ks (fun _ => False) H H2 := hK1.tr2 hK2 (fun a ha e => by rw [e] at ha; exact ha hq)
      have s2 : Stq G (fun _ => False) H O H2 (rlb O H (8 * t + 4)) := Stq.rl _ hK12 z2
      have x2 := h4.ks s2 (fun _ _ h => h.elim)
      rw [hn] at x2
      obtain ⟨v1, v2, v3, v4, v5⟩ := cable_v (y := y) (p := x) (q := z) hB (by omega)
      rw [hn] at v2 v3 v4
      have x3 := x2.to (cv' := cvOf (cableG g y x z)) (fun c k hc hk => v3 _ (by omega) (by omega))
      have kr2 := x3.1.1
      have fc : ∀ {b}, kd H1 b = 0 → kd H b = 0 := fun h => hK1.fr h
      have i2 := h2.ks s2 (fun _ _ h => h.elim)
      have i3 := h3.ks s2 (fun _ _ h => h.elim)
      have i5 := h5.ks s2 (fun _ _ h => h.elim)
      obtain ⟨⟨r1, r8, r9, r10, r11, r12, r13, r14, r15⟩, rO⟩ := (PlF.ks ⟨⟨p1, p8, p9, p10, p11, p12, p13, p14, p15⟩, pO⟩ s2 (fun _ _ h => h.elim) : PlF H2 _ (8 * t + 1) p A.ty A.M A.tr A.ca A.dr (g 0) (g 1) (g 2))
      show AW mX2_addCable G d Qr Qx _ _ H2 62 _ _
      refine r_callV (As := [_]) (mc' := 1) (ms' := 22) dX2_addCable_62 k_X2_68 rfl (by first | assumption | (simp only [kd_sI, kd_sR, kd_sA, kd_sQ, kd_sL, kd_sD, ln_sI, ln_sR, ln_sA, ln_sQ, ln_sL, ln_sD, gI_sR, gI_sA, gI_sQ, gI_sL, gI_sD, gR_sI, gR_sA, gR_sQ, gR_sL, gR_sD, gA_sI, gA_sR, gA_sQ, gA_sL, gA_sD, gQ_sI, gQ_sR, gQ_sA, gQ_sL, gQ_sD, gL_sI, gL_sR, gL_sA, gL_sQ, gL_sD]; assumption) | simp [kd_sI, kd_sR, kd_sA, kd_sQ, kd_sL, kd_sD, ln_sI, ln_sR, ln_sA, ln_sQ, ln_sL, ln_sD, gI_sR, gI_sA, gI_sQ, gI_sL, gI_sD, gR_sI, gR_sA, gR_sQ, gR_sL, gR_sD, gA_sI, gA_sR, gA_sQ, gA_sL, gA_sD, gQ_sI, gQ_sR, gQ_sA, gQ_sL, gQ_sD, gL_sI, gL_sR, gL_sA, gL_sQ, gL_sD, kd_nO, kd_nA, *]) (T := TJ2) (N := 3) rfl (by first | assumption | omega) (by first | assumption | omega) (by first | assumption | omega) (Nat.le_of_ble_eq_true rfl) ?_
      refine s_add (by omega) x3.1 (by omega) (Or.inl ⟨by rw [hT2.1.1]; decide, by rw [hT2.1.1]; decide⟩) (fun H3 e3 hK3 he3 hL3 => ?_)
      refine AW.st0 (fun z3 => ?_)
      have e4 : (cvOf (cableG g y x z) n 4).toNatClampNeg = 0 := by
        rw [v4 4 (by decide)]
        rfl
      have hTn : CaO G H2 q52 r2 (gSt G 1) (fun _ => 0) (cvOf (cableG g y x z) n 4).toNatClampNeg (cvOf (cableG g y x z) n) := by
        rw [e4]
        exact hT2.to (fun k hk => (v4 k hk).symm) (fun i hi => absurd hi (by omega))
      obtain ⟨s3, x4⟩ := x3.add z2 (by omega) hK3 he3 hL3 z3 hTn (rlb_f hq) ⟨rlb_f (hK1.fr hr2), fun k => absurd z2 k⟩ (fun i hi => absurd hi (by omega)) (by omega) (fun j hj => ⟨fun e => absurd ((h4.2.2.2.1 j (by omega)).1.1.1) (by rw [e, hq]; decide), fun e => absurd ((h4.2.2.2.1 j (by omega)).1.2.2.2.1.1) (by rw [e, hK1.fr hr2]; decide), fun k => absurd z2 k⟩) (fun e => absurd h4.1.1 (by rw [← e, hK1.fr hr2]; decide)) (fun k => absurd z2 k)
      obtain ⟨O3, hO3⟩ : ∃ O3, O3 = rlb (rlb O H (8 * t + 4)) H2 (8 * t + 4) := ⟨_, rfl⟩
      rw [← hO3] at s3 x4
      have s23 : Stq G (fun b => O b / 8 = t) H O H3 O3 := (s2.mono (fun _ _ h => h.elim)).tr2 s3 (fun b hb q => by rw [s2.2.1 b hb] at q; omega)
      have f3 := PlF.ks ⟨⟨r1, r8, r9, r10, r11, r12, r13, r14, r15⟩, rO⟩ s3 (fun b _ e => by omega)
      obtain ⟨⟨w1, w8, w9, w10, w11, w12, w13, w14, w15⟩, wO⟩ := f3
      have kr4 := x4.1.1
      show AW mX2_addCable G d Qr Qx _ _ H3 65 _ _
      refine r_istore dX2_addCable_65 (Nat.le_of_ble_eq_true rfl) (by simp only [lset]; rfl) ?_
      refine r_aload_n (i := 0) dX2_addCable_67 rfl rfl ?_
      refine r_getR dX2_addCable_68 fR_X2_28 (by first | assumption | (simp only [kd_sI, kd_sR, kd_sA, kd_sQ, kd_sL, kd_sD, ln_sI, ln_sR, ln_sA, ln_sQ, ln_sL, ln_sD, gI_sR, gI_sA, gI_sQ, gI_sL, gI_sD, gR_sI, gR_sA, gR_sQ, gR_sL, gR_sD, gA_sI, gA_sR, gA_sQ, gA_sL, gA_sD, gQ_sI, gQ_sR, gQ_sA, gQ_sL, gQ_sD, gL_sI, gL_sR, gL_sA, gL_sQ, gL_sD]; assumption) | simp [kd_sI, kd_sR, kd_sA, kd_sQ, kd_sL, kd_sD, ln_sI, ln_sR, ln_sA, ln_sQ, ln_sL, ln_sD, gI_sR, gI_sA, gI_sQ, gI_sL, gI_sD, gR_sI, gR_sA, gR_sQ, gR_sL, gR_sD, gA_sI, gA_sR, gA_sQ, gA_sL, gA_sD, gQ_sI, gQ_sR, gQ_sA, gQ_sL, gQ_sD, gL_sI, gL_sR, gL_sA, gL_sQ, gL_sD, kd_nO, kd_nA, *]) (by first | assumption | exact gI_sIs | exact gR_sRs | with_reducible rfl | (simp only [kd_sI, kd_sR, kd_sA, kd_sQ, kd_sL, kd_sD, ln_sI, ln_sR, ln_sA, ln_sQ, ln_sL, ln_sD, gI_sR, gI_sA, gI_sQ, gI_sL, gI_sD, gR_sI, gR_sA, gR_sQ, gR_sL, gR_sD, gA_sI, gA_sR, gA_sQ, gA_sL, gA_sD, gQ_sI, gQ_sR, gQ_sA, gQ_sL, gQ_sD, gL_sI, gL_sR, gL_sA, gL_sQ, gL_sD]; first | done | assumption | with_reducible rfl) | rfl) ?_
      refine r_callV (As := []) (mc' := 0) (ms' := 0) dX2_addCable_71 k_X2_88 rfl (by first | assumption | (simp only [kd_sI, kd_sR, kd_sA, kd_sQ, kd_sL, kd_sD, ln_sI, ln_sR, ln_sA, ln_sQ, ln_sL, ln_sD, gI_sR, gI_sA, gI_sQ, gI_sL, gI_sD, gR_sI, gR_sA, gR_sQ, gR_sL, gR_sD, gA_sI, gA_sR, gA_sQ, gA_sL, gA_sD, gQ_sI, gQ_sR, gQ_sA, gQ_sL, gQ_sD, gL_sI, gL_sR, gL_sA, gL_sQ, gL_sD]; assumption) | simp [kd_sI, kd_sR, kd_sA, kd_sQ, kd_sL, kd_sD, ln_sI, ln_sR, ln_sA, ln_sQ, ln_sL, ln_sD, gI_sR, gI_sA, gI_sQ, gI_sL, gI_sD, gR_sI, gR_sA, gR_sQ, gR_sL, gR_sD, gA_sI, gA_sR, gA_sQ, gA_sL, gA_sD, gQ_sI, gQ_sR, gQ_sA, gQ_sL, gQ_sD, gL_sI, gL_sR, gL_sA, gL_sQ, gL_sD, kd_nO, kd_nA, *]) (T := TJ2) (N := 3) rfl (by first | assumption | omega) (by first | assumption | omega) (by first | assumption | omega) (Nat.le_of_ble_eq_true rfl) ?_
      refine s_size x4.1.1 x4.1.2.1 ?_
      show AW mX2_addCable G d Qr Qx _ _ H3 74 _ _
      refine r_iconst (v := nI 1) dX2_addCable_74 (by decide) ?_
      refine r_isub dX2_addCable_75 ?_
      refine r_ireturn dX2_addCable_76 rfl (by first | rfl | assumption | exact vp_nar_int _ | exact pk_nc _) ?_
      rw [nI_sub (by omega), Nat.add_sub_cancel]
      rw [hn] at hQ
      refine hQ hcc.symm H3 O3 s23 ⟨A, IsP.of h0 ?_ ?_ ?_ ?_ ?_⟩
      · rw [v3 0 (by omega) (by omega), v3 1 (by omega) (by omega), v3 2 (by omega) (by omega)]
        exact ⟨⟨w1, w8, w9, w10, w11, w12, w13, w14, w15⟩, wO⟩
      · have e3 : nat (cableG g y x z) 3 = nat g 3 := nat_eq (v3 3 (by omega) (by omega))
        rw [e3]
        exact TyS.to ⟨_, _, _, _, i2.ks s3 (fun b _ q => ⟨by omega, by omega, fun k => by omega⟩)⟩ hYY rfl (fun i h1 h2 => v3 i (by omega) (by omega))
      · have e3 : nat (cableG g y x z) 40 = nat g 40 := nat_eq (v3 40 (by omega) (by omega))
        rw [e3]
        exact (i3.ks s3 (fun b _ q => by omega)).to v5
      · rw [v2]
        exact ⟨_, _, _, _, _, x4⟩
      · have e3 : nat (cableG g y x z) 354 = nat g 354 := nat_eq (v3 354 (by omega) (by omega))
        rw [e3]
        exact (i5.ks s3 (fun b _ q => by omega)).to (fun c k _ _ => v3 _ (by omega) (by omega))
    refine r_bipush (v := nI 12) dX2_addCable_35 (by decide) ?_
    refine r_icmp_ge (tgt := 44) dX2_addCable_37 (by decide) (fun h37 => ?_) (fun h37 => ?_)
    · refine r_iconst (v := nI 0) dX2_addCable_44 (by decide) ?_
      have := (nI_leI (by omega) (by omega)).mp h37
      exact st9 false (decide_eq_false (by omega))
    · refine r_iconst (v := nI 1) dX2_addCable_40 (by decide) ?_
      refine r_goto (tgt := 45) dX2_addCable_41 (by decide) ?_
      have : ¬ 12 ≤ n := fun h => h37 (nI_le h (by omega))
      exact st9 true (decide_eq_true (by omega))
  refine r_iload_n (i := 2) dX2_addCable_15 rfl rfl ?_
  refine r_iload_n (i := 3) dX2_addCable_16 rfl rfl ?_
  refine r_icmp_eq (tgt := 24) dX2_addCable_17 (by decide) (fun h17 => ?_) (fun h17 => ?_)
  · refine r_iconst (v := nI 0) dX2_addCable_24 (by decide) ?_
    have e : x = z := h17
    exact chk false (by simp [e])
  · have e : ¬ x = z := h17
    refine r_iconst (v := nI 1) dX2_addCable_20 (by decide) ?_
    refine r_goto (tgt := 25) dX2_addCable_21 (by decide) ?_
    exact chk true (by simp [e])
theorem pl_addDrum {y r : Int32} (hd : 8 ≤ d) (hP : IsP G H O t p A g) (hI : IG g) (hQ : c_addDrum g y r = 0 → ∀ H' O', Stq G (fun b => O b / 8 = t) H O H' O' → IsPlan G H' O' t p (drumG g y r) → Qr (some (vI (nI (nat g 354)))) H') (hX1 : c_addDrum g y r = 1 → ∀ q, Qx "java/lang/IndexOutOfBoundsException" q H) (hX2 : c_addDrum g y r = 2 → ∀ q, Qx "java/lang/IllegalArgumentException" q H) (hX3 : c_addDrum g y r = 3 → ∀ q, Qx "java/lang/IllegalStateException" q H) : AMet G d 5 43 yX2_addDrum wX2_addDrum H [vR (some p), vI y, vI r] Qr Qx := by
  have hB := hI.1
  have hYY := hI.2.2.2.2.2.2.2.1
  obtain ⟨h0, h1, ⟨eT, ty, nm, nd, h2⟩, h3, h4, ⟨e, dr, h5⟩⟩ := hP
  obtain ⟨⟨p1, p8, p9, p10, p11, p12, p13, p14, p15⟩, pO⟩ := h1
  have h354 := hB.2.2.2.1.2
  have h101 := hB.2.2.1.2
  have h40 := hB.2.1.2
  have g3n := hB.1.1
  have h36 := hB.1.2
  have kr := h5.1.1
  obtain ⟨n, hn⟩ : ∃ n, nat g 354 = n := ⟨_, rfl⟩
  obtain ⟨cc, hcc⟩ : ∃ cc, c_addDrum g y r = cc := ⟨_, rfl⟩
  rw [hcc] at hQ hX1 hX2 hX3
  unfold c_addDrum isY at hcc
  rw [g3n] at hcc
  refine AMet.of (M := mX2_addDrum) (maxL := 5) (by first | rfl | decide +kernel) rfl (Nat.le_of_ble_eq_true rfl) ?_
  show AW mX2_addDrum _ _ _ _ _ _ _ 0 [some (vR (some p)), some (vI y), some (vI r), none, none] []
  refine r_aload_n (i := 0) dX2_addDrum_0 rfl rfl ?_
  refine r_iload_n (i := 1) dX2_addDrum_1 rfl rfl ?_
  refine r_callV (As := [_]) (mc' := 1) (ms' := 6) dX2_addDrum_2 k_X2_163 rfl (by first | assumption | (simp only [kd_sI, kd_sR, kd_sA, kd_sQ, kd_sL, kd_sD, ln_sI, ln_sR, ln_sA, ln_sQ, ln_sL, ln_sD, gI_sR, gI_sA, gI_sQ, gI_sL, gI_sD, gR_sI, gR_sA, gR_sQ, gR_sL, gR_sD, gA_sI, gA_sR, gA_sQ, gA_sL, gA_sD, gQ_sI, gQ_sR, gQ_sA, gQ_sL, gQ_sD, gL_sI, gL_sR, gL_sA, gL_sQ, gL_sD]; assumption) | simp [kd_sI, kd_sR, kd_sA, kd_sQ, kd_sL, kd_sD, ln_sI, ln_sR, ln_sA, ln_sQ, ln_sL, ln_sD, gI_sR, gI_sA, gI_sQ, gI_sL, gI_sD, gR_sI, gR_sA, gR_sQ, gR_sL, gR_sD, gA_sI, gA_sR, gA_sQ, gA_sL, gA_sD, gQ_sI, gQ_sR, gQ_sA, gQ_sL, gQ_sD, gL_sI, gL_sR, gL_sA, gL_sQ, gL_sD, kd_nO, kd_nA, *]) (T := TX2) (N := 8) rfl (by first | assumption | omega) (by first | assumption | omega) (by first | assumption | omega) (Nat.le_of_ble_eq_true rfl) ?_
  refine c_ptype (by omega) p1 p8 h2.1 (by omega) (fun i hi => (h2.2.2.2.2.2 i hi).1.1) (fun hyb i0 hi0 _ => ?_) (fun hx q => x_out (by decide) (hX1 (by rw [← hcc, hx]; rfl) q))
  rw [hyb, if_neg (by decide)] at hcc
  show AW mX2_addDrum G d Qr Qx _ _ H 5 _ _
  refine r_astore_n (i := 3) dX2_addDrum_5 rfl (Nat.le_of_ble_eq_true rfl) (by simp only [lset]; rfl) ?_
  refine r_iload_n (i := 2) dX2_addDrum_6 rfl rfl ?_
  refine r_i2l dX2_addDrum_7 ?_
  refine r_lconst dX2_addDrum_8 rfl ?_
  refine r_ldc2 dX2_addDrum_9 q1725 ?_
  refine r_callSN (As := [_, _, _]) (mc' := 0) (ms' := 0) dX2_addDrum_12 k_X2_102 rfl (by first | assumption | omega) (by first | assumption | omega) (by first | assumption | omega) (Nat.le_of_ble_eq_true rfl) ?_
  refine s_inRange (a := nI 0) (b := nI 999) (by decide) (by decide) ?_
  show AW mX2_addDrum G d Qr Qx _ _ H 15 _ _
  refine r_callSN (As := [_]) (mc' := 1) (ms' := 6) dX2_addDrum_15 k_X2_124 rfl (by first | assumption | omega) (by first | assumption | omega) (by first | assumption | omega) (Nat.le_of_ble_eq_true rfl) ?_
  refine s_checkArgument (by omega) (fun hb1 => ?_) (fun hb1 q => x_out (by decide) (hX2 (by rw [← hcc, hb1, if_pos rfl]) q))
  rw [hb1, if_neg (by decide), hn] at hcc
  show AW mX2_addDrum G d Qr Qx _ _ H 18 _ _
  refine r_aload_n (i := 0) dX2_addDrum_18 rfl rfl ?_
  refine r_getR dX2_addDrum_19 fR_X2_31 (by first | assumption | (simp only [kd_sI, kd_sR, kd_sA, kd_sQ, kd_sL, kd_sD, ln_sI, ln_sR, ln_sA, ln_sQ, ln_sL, ln_sD, gI_sR, gI_sA, gI_sQ, gI_sL, gI_sD, gR_sI, gR_sA, gR_sQ, gR_sL, gR_sD, gA_sI, gA_sR, gA_sQ, gA_sL, gA_sD, gQ_sI, gQ_sR, gQ_sA, gQ_sL, gQ_sD, gL_sI, gL_sR, gL_sA, gL_sQ, gL_sD]; assumption) | simp [kd_sI, kd_sR, kd_sA, kd_sQ, kd_sL, kd_sD, ln_sI, ln_sR, ln_sA, ln_sQ, ln_sL, ln_sD, gI_sR, gI_sA, gI_sQ, gI_sL, gI_sD, gR_sI, gR_sA, gR_sQ, gR_sL, gR_sD, gA_sI, gA_sR, gA_sQ, gA_sL, gA_sD, gQ_sI, gQ_sR, gQ_sA, gQ_sL, gQ_sD, gL_sI, gL_sR, gL_sA, gL_sQ, gL_sD, kd_nO, kd_nA, *]) (by first | assumption | exact gI_sIs | exact gR_sRs | with_reducible rfl | (simp only [kd_sI, kd_sR, kd_sA, kd_sQ, kd_sL, kd_sD, ln_sI, ln_sR, ln_sA, ln_sQ, ln_sL, ln_sD, gI_sR, gI_sA, gI_sQ, gI_sL, gI_sD, gR_sI, gR_sA, gR_sQ, gR_sL, gR_sD, gA_sI, gA_sR, gA_sQ, gA_sL, gA_sD, gQ_sI, gQ_sR, gQ_sA, gQ_sL, gQ_sD, gL_sI, gL_sR, gL_sA, gL_sQ, gL_sD]; first | done | assumption | with_reducible rfl) | rfl) ?_
  refine r_callV (As := []) (mc' := 0) (ms' := 0) dX2_addDrum_22 k_X2_88 rfl (by first | assumption | (simp only [kd_sI, kd_sR, kd_sA, kd_sQ, kd_sL, kd_sD, ln_sI, ln_sR, ln_sA, ln_sQ, ln_sL, ln_sD, gI_sR, gI_sA, gI_sQ, gI_sL, gI_sD, gR_sI, gR_sA, gR_sQ, gR_sL, gR_sD, gA_sI, gA_sR, gA_sQ, gA_sL, gA_sD, gQ_sI, gQ_sR, gQ_sA, gQ_sL, gQ_sD, gL_sI, gL_sR, gL_sA, gL_sQ, gL_sD]; assumption) | simp [kd_sI, kd_sR, kd_sA, kd_sQ, kd_sL, kd_sD, ln_sI, ln_sR, ln_sA, ln_sQ, ln_sL, ln_sD, gI_sR, gI_sA, gI_sQ, gI_sL, gI_sD, gR_sI, gR_sA, gR_sQ, gR_sL, gR_sD, gA_sI, gA_sR, gA_sQ, gA_sL, gA_sD, gQ_sI, gQ_sR, gQ_sA, gQ_sL, gQ_sD, gL_sI, gL_sR, gL_sA, gL_sQ, gL_sD, kd_nO, kd_nA, *]) (T := TJ2) (N := 3) rfl (by first | assumption | omega) (by first | assumption | omega) (by first | assumption | omega) (Nat.le_of_ble_eq_true rfl) ?_
  refine s_size h5.1.1 h5.1.2.1 ?_
  rw [hn]
  show AW mX2_addDrum G d Qr Qx _ _ H 25 _ _
  have st9 : ∀ b, decide (n < 10) = b → AW mX2_addDrum G d Qr Qx 3 31 H 35 [some (vR (some p)), some (vI y), some (vI r), some (vR (some (ty i0))), none] [vI (bI b)] := by
    intro b hb
    refine r_callSN (As := [_]) (mc' := 1) (ms' := 6) dX2_addDrum_35 k_X2_131 rfl (by first | assumption | omega) (by first | assumption | omega) (by first | assumption | omega) (Nat.le_of_ble_eq_true rfl) ?_
    refine s_checkState (by omega) (fun hb1 => ?_) (fun hb1 q => x_out (by decide) (hX3 (by
      rw [hb1, decide_eq_false_iff_not] at hb
      rw [← hcc, if_pos (by omega)]) q))
    rw [hb1, decide_eq_true_iff] at hb
    rw [if_neg (by omega)] at hcc
    show AW mX2_addDrum G d Qr Qx _ _ H 38 _ _
    refine r_aload_n (i := 0) dX2_addDrum_38 rfl rfl ?_
    refine r_getR dX2_addDrum_39 fR_X2_31 (by first | assumption | (simp only [kd_sI, kd_sR, kd_sA, kd_sQ, kd_sL, kd_sD, ln_sI, ln_sR, ln_sA, ln_sQ, ln_sL, ln_sD, gI_sR, gI_sA, gI_sQ, gI_sL, gI_sD, gR_sI, gR_sA, gR_sQ, gR_sL, gR_sD, gA_sI, gA_sR, gA_sQ, gA_sL, gA_sD, gQ_sI, gQ_sR, gQ_sA, gQ_sL, gQ_sD, gL_sI, gL_sR, gL_sA, gL_sQ, gL_sD]; assumption) | simp [kd_sI, kd_sR, kd_sA, kd_sQ, kd_sL, kd_sD, ln_sI, ln_sR, ln_sA, ln_sQ, ln_sL, ln_sD, gI_sR, gI_sA, gI_sQ, gI_sL, gI_sD, gR_sI, gR_sA, gR_sQ, gR_sL, gR_sD, gA_sI, gA_sR, gA_sQ, gA_sL, gA_sD, gQ_sI, gQ_sR, gQ_sA, gQ_sL, gQ_sD, gL_sI, gL_sR, gL_sA, gL_sQ, gL_sD, kd_nO, kd_nA, *]) (by first | assumption | exact gI_sIs | exact gR_sRs | with_reducible rfl | (simp only [kd_sI, kd_sR, kd_sA, kd_sQ, kd_sL, kd_sD, ln_sI, ln_sR, ln_sA, ln_sQ, ln_sL, ln_sD, gI_sR, gI_sA, gI_sQ, gI_sL, gI_sD, gR_sI, gR_sA, gR_sQ, gR_sL, gR_sD, gA_sI, gA_sR, gA_sQ, gA_sL, gA_sD, gQ_sI, gQ_sR, gQ_sA, gQ_sL, gQ_sD, gL_sI, gL_sR, gL_sA, gL_sQ, gL_sD]; first | done | assumption | with_reducible rfl) | rfl) ?_
    refine r_new dX2_addDrum_42 cT_X6 q1217 q1564 q120 (by decide +kernel) (by first | assumption | omega) (by first | assumption | omega) (fun q42 hq42 => ?_)
    have hq : kd H q42 = 0 := hq42
    refine AW.name (fun H1 hH1 => ?_)
    have hK1 : Ks (fun _ => False) H H1 := by rw [hH1]; exact Ks.rf.nO hq
    have kq : kd H1 q42 = 5 := by rw [hH1, kd_nO, if_pos rfl]
    refine r_dup dX2_addDrum_45 rfl ?_
    refine r_iload_n (i := 1) dX2_addDrum_46 rfl rfl ?_
    refine r_iload_n (i := 2) dX2_addDrum_47 rfl rfl ?_
    refine r_callI (As := [_, _]) (mc' := 0) (ms' := 0) dX2_addDrum_48 k_X2_170 rfl (by first | assumption | omega) (by first | assumption | omega) (by first | assumption | omega) (Nat.le_of_ble_eq_true rfl) ?_
    refine c_drumInit (by omega) kq (fun H2 hK2 hT2 => ?_)
    refine AW.st0 (fun z2 => ?_)
    have hK12 : Ks (fun _ => False) H H2 := hK1.tr2 hK2 (fun a ha e => by rw [e] at ha; exact ha hq)
    have s2 : Stq G (fun _ => False) H O H2 (rlb O H (8 * t + 5)) := Stq.rl _ hK12 z2
    have x2 := h5.ks s2 (fun _ _ h => h.elim)
    rw [hn] at x2
    obtain ⟨v1, v2, v3, v4, v5⟩ := drum_v (y := y) (r := r) hB (by omega)
    rw [hn] at v2 v3 v4
    have x3 := x2.to (dv' := dvOf (drumG g y r)) (fun c k hc hk => v3 _ (by omega) (by omega))
    have kr2 := x3.1.1
    have i2 := h2.ks s2 (fun _ _ h => h.elim)
    have i3 := h3.ks s2 (fun _ _ h => h.elim)
    have i4 := h4.ks s2 (fun _ _ h => h.elim)
    obtain ⟨⟨r1, r8, r9, r10, r11, r12, r13, r14, r15⟩, rO⟩ := (PlF.ks ⟨⟨p1, p8, p9, p10, p11, p12, p13, p14, p15⟩, pO⟩ s2 (fun _ _ h => h.elim) : PlF H2 _ (8 * t + 1) p A.ty A.M A.tr A.ca A.dr (g 0) (g 1) (g 2))
    show AW mX2_addDrum G d Qr Qx _ _ H2 51 _ _
    refine r_callV (As := [_]) (mc' := 1) (ms' := 22) dX2_addDrum_51 k_X2_68 rfl (by first | assumption | (simp only [kd_sI, kd_sR, kd_sA, kd_sQ, kd_sL, kd_sD, ln_sI, ln_sR, ln_sA, ln_sQ, ln_sL, ln_sD, gI_sR, gI_sA, gI_sQ, gI_sL, gI_sD, gR_sI, gR_sA, gR_sQ, gR_sL, gR_sD, gA_sI, gA_sR, gA_sQ, gA_sL, gA_sD, gQ_sI, gQ_sR, gQ_sA, gQ_sL, gQ_sD, gL_sI, gL_sR, gL_sA, gL_sQ, gL_sD]; assumption) | simp [kd_sI, kd_sR, kd_sA, kd_sQ, kd_sL, kd_sD, ln_sI, ln_sR, ln_sA, ln_sQ, ln_sL, ln_sD, gI_sR, gI_sA, gI_sQ, gI_sL, gI_sD, gR_sI, gR_sA, gR_sQ, gR_sL, gR_sD, gA_sI, gA_sR, gA_sQ, gA_sL, gA_sD, gQ_sI, gQ_sR, gQ_sA, gQ_sL, gQ_sD, gL_sI, gL_sR, gL_sA, gL_sQ, gL_sD, kd_nO, kd_nA, *]) (T := TJ2) (N := 3) rfl (by first | assumption | omega) (by first | assumption | omega) (by first | assumption | omega) (Nat.le_of_ble_eq_true rfl) ?_
    refine s_add (by omega) x3.1 (by omega) (Or.inl ⟨by rw [hT2.1]; decide, by rw [hT2.1]; decide⟩) (fun H3 e3 hK3 he3 hL3 => ?_)
    refine AW.st0 (fun z3 => ?_)
    have hTn : DrO H2 q42 (dvOf (drumG g y r) n 0) (dvOf (drumG g y r) n 2) (dvOf (drumG g y r) n 1) := by
      rw [v4.1, v4.2.1, v4.2.2]
      exact hT2
    obtain ⟨s3, x4⟩ := x3.add z2 (by omega) hK3 he3 hL3 z3 hTn (rlb_f hq) (fun j hj e => absurd ((h5.2.2.2.1 j (by omega)).1.1) (by rw [e, hq]; decide))
    obtain ⟨O3, hO3⟩ : ∃ O3, O3 = rlb (rlb O H (8 * t + 5)) H2 (8 * t + 5) := ⟨_, rfl⟩
    rw [← hO3] at s3 x4
    have s23 : Stq G (fun b => O b / 8 = t) H O H3 O3 := (s2.mono (fun _ _ h => h.elim)).tr2 s3 (fun b hb q => by rw [s2.2.1 b hb] at q; omega)
    have f3 := PlF.ks ⟨⟨r1, r8, r9, r10, r11, r12, r13, r14, r15⟩, rO⟩ s3 (fun b _ e => by omega)
    obtain ⟨⟨w1, w8, w9, w10, w11, w12, w13, w14, w15⟩, wO⟩ := f3
    have kr4 := x4.1.1
    show AW mX2_addDrum G d Qr Qx _ _ H3 54 _ _
    refine r_istore dX2_addDrum_54 (Nat.le_of_ble_eq_true rfl) (by simp only [lset]; rfl) ?_
    refine r_aload_n (i := 0) dX2_addDrum_56 rfl rfl ?_
    refine r_getR dX2_addDrum_57 fR_X2_31 (by first | assumption | (simp only [kd_sI, kd_sR, kd_sA, kd_sQ, kd_sL, kd_sD, ln_sI, ln_sR, ln_sA, ln_sQ, ln_sL, ln_sD, gI_sR, gI_sA, gI_sQ, gI_sL, gI_sD, gR_sI, gR_sA, gR_sQ, gR_sL, gR_sD, gA_sI, gA_sR, gA_sQ, gA_sL, gA_sD, gQ_sI, gQ_sR, gQ_sA, gQ_sL, gQ_sD, gL_sI, gL_sR, gL_sA, gL_sQ, gL_sD]; assumption) | simp [kd_sI, kd_sR, kd_sA, kd_sQ, kd_sL, kd_sD, ln_sI, ln_sR, ln_sA, ln_sQ, ln_sL, ln_sD, gI_sR, gI_sA, gI_sQ, gI_sL, gI_sD, gR_sI, gR_sA, gR_sQ, gR_sL, gR_sD, gA_sI, gA_sR, gA_sQ, gA_sL, gA_sD, gQ_sI, gQ_sR, gQ_sA, gQ_sL, gQ_sD, gL_sI, gL_sR, gL_sA, gL_sQ, gL_sD, kd_nO, kd_nA, *]) (by first | assumption | exact gI_sIs | exact gR_sRs | with_reducible rfl | (simp only [kd_sI, kd_sR, kd_sA, kd_sQ, kd_sL, kd_sD, ln_sI, ln_sR, ln_sA, ln_sQ, ln_sL, ln_sD, gI_sR, gI_sA, gI_sQ, gI_sL, gI_sD, gR_sI, gR_sA, gR_sQ, gR_sL, gR_sD, gA_sI, gA_sR, gA_sQ, gA_sL, gA_sD, gQ_sI, gQ_sR, gQ_sA, gQ_sL, gQ_sD, gL_sI, gL_sR, gL_sA, gL_sQ, gL_sD]; first | done | assumption | with_reducible rfl) | rfl) ?_
    refine r_callV (As := []) (mc' := 0) (ms' := 0) dX2_addDrum_60 k_X2_88 rfl (by first | assumption | (simp only [kd_sI, kd_sR, kd_sA, kd_sQ, kd_sL, kd_sD, ln_sI, ln_sR, ln_sA, ln_sQ, ln_sL, ln_sD, gI_sR, gI_sA, gI_sQ, gI_sL, gI_sD, gR_sI, gR_sA, gR_sQ, gR_sL, gR_sD, gA_sI, gA_sR, gA_sQ, gA_sL, gA_sD, gQ_sI, gQ_sR, gQ_sA, gQ_sL, gQ_sD, gL_sI, gL_sR, gL_sA, gL_sQ, gL_sD]; assumption) | simp [kd_sI, kd_sR, kd_sA, kd_sQ, kd_sL, kd_sD, ln_sI, ln_sR, ln_sA, ln_sQ, ln_sL, ln_sD, gI_sR, gI_sA, gI_sQ, gI_sL, gI_sD, gR_sI, gR_sA, gR_sQ, gR_sL, gR_sD, gA_sI, gA_sR, gA_sQ, gA_sL, gA_sD, gQ_sI, gQ_sR, gQ_sA, gQ_sL, gQ_sD, gL_sI, gL_sR, gL_sA, gL_sQ, gL_sD, kd_nO, kd_nA, *]) (T := TJ2) (N := 3) rfl (by first | assumption | omega) (by first | assumption | omega) (by first | assumption | omega) (Nat.le_of_ble_eq_true rfl) ?_
    refine s_size x4.1.1 x4.1.2.1 ?_
    show AW mX2_addDrum G d Qr Qx _ _ H3 63 _ _
    refine r_iconst (v := nI 1) dX2_addDrum_63 (by decide) ?_
    refine r_isub dX2_addDrum_64 ?_
    refine r_ireturn dX2_addDrum_65 rfl (by first | rfl | assumption | exact vp_nar_int _ | exact pk_nc _) ?_
    rw [nI_sub (by omega), Nat.add_sub_cancel]
    rw [hn] at hQ
    refine hQ hcc.symm H3 O3 s23 ⟨A, IsP.of h0 ?_ ?_ ?_ ?_ ?_⟩
    · rw [v3 0 (by omega) (by omega), v3 1 (by omega) (by omega), v3 2 (by omega) (by omega)]
      exact ⟨⟨w1, w8, w9, w10, w11, w12, w13, w14, w15⟩, wO⟩
    · have e3 : nat (drumG g y r) 3 = nat g 3 := nat_eq (v3 3 (by omega) (by omega))
      rw [e3]
      exact TyS.to ⟨_, _, _, _, i2.ks s3 (fun b _ q => ⟨by omega, by omega, fun k => by omega⟩)⟩ hYY rfl (fun i h1 h2 => v3 i (by omega) (by omega))
    · have e3 : nat (drumG g y r) 40 = nat g 40 := nat_eq (v3 40 (by omega) (by omega))
      rw [e3]
      exact (i3.ks s3 (fun b _ q => by omega)).to v5
    · have e3 : nat (drumG g y r) 101 = nat g 101 := nat_eq (v3 101 (by omega) (by omega))
      rw [e3]
      exact (i4.ks s3 (fun b _ q => ⟨by omega, by omega⟩)).to (fun c k hc hk => v3 _ (by omega) (by omega))
    · rw [v2]
      exact ⟨_, _, x4⟩
  refine r_bipush (v := nI 10) dX2_addDrum_25 (by decide) ?_
  refine r_icmp_ge (tgt := 34) dX2_addDrum_27 (by decide) (fun h27 => ?_) (fun h27 => ?_)
  · refine r_iconst (v := nI 0) dX2_addDrum_34 (by decide) ?_
    have := (nI_leI (by omega) (by omega)).mp h27
    exact st9 false (decide_eq_false (by omega))
  · refine r_iconst (v := nI 1) dX2_addDrum_30 (by decide) ?_
    refine r_goto (tgt := 35) dX2_addDrum_31 (by decide) ?_
    have : ¬ 10 ≤ n := fun h => h27 (nI_le h (by omega))
    exact st9 true (decide_eq_true (by omega))
end Adds
