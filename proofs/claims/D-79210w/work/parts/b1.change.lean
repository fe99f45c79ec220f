set_option maxRecDepth 100000
/-! THE PLANNER CHANGES ITS PLAN -/
section Change
variable {G : Gl} {d : Nat} {Qr : Option AV → AH → Prop} {Qx : String → Nat → AH → Prop} {H : AH} {O : Nat → Nat} {pn : Nat} {L : List (Nat → Int32)} {K : Option (Nat → Int32)} {B : List Nat} {w r : Option Nat} {Ch : List Int32} {g : Nat → Int32}
theorem ch_mid {t p q t' : Nat} {Y : ZY} {H1 H2 : AH} {O1 O2 : Nat → Nat} (h1 : gR H 1 pn = some p) (hP : IsPlan G H O t p g) (hZ : CoZ G H O pn t Y L K B w r Ch) (s1 : Stq G (fun _ => False) H O H1 O1) (hT : ∀ a, kd H a ≠ 0 → O a < 8 * t') (hP' : IsPlan G H1 O1 t' q g) (s2 : Stq G (fun b => O1 b / 8 = t) H1 O1 H2 O2) : CoZ G H2 O2 pn t Y L K B w r Ch ∧ IsPlan G H2 O2 t' q g ∧ t' ≠ t ∧ (∀ i, i < L.length → t' ≠ Y.ts i) ∧ (K ≠ none → t' ≠ Y.tv) ∧ Stq G (SC O) H O H2 O2 ∧ gR H2 1 pn = some p := by
  obtain ⟨k1, k2, k3⟩ := hZ.tok hP hT
  have t1 := hP.pos.1
  have hZ1 := hZ.k0 s1
  have e1 := s1.1.at (a := pn) (by rw [hZ.1]; decide) (fun h => h)
  have e2 := s2.1.at (a := pn) (by rw [hZ1.1]; decide) (fun q => by rw [hZ1.2.1] at q; omega)
  refine ⟨hZ1.ks s2 (fun a _ e => ⟨by omega, by omega, fun h => by omega, fun _ => e⟩), hP'.ks s2 (fun a _ e => ⟨by omega, fun h => by omega, by omega⟩), by omega, fun i hi => by have := k2 i hi; omega, fun hK => by have := k3 hK; omega, (s1.mono (fun _ _ h => h.elim)).tr2 s2 (fun b hb e => by rw [s1.2.1 b hb] at e; exact Or.inr (by omega)), by rw [at_gR e2, at_gR e1]; exact h1⟩
theorem ch_end {t p : Nat} {Y Y3 : ZY} {H2 H3 : AH} {O2 : Nat → Nat} {g2 : Nat → Int32} {L3 : List (Nat → Int32)} (s2 : Stq G (SC O) H O H2 O2) (hP2 : IsPlan G H2 O2 t p g2) (r1 : gR H2 1 pn = some p) (hZ2 : CoZ G H2 O2 pn t Y L K B w r Ch) (s3 : Stq G (fun b => O2 b = 5) H2 O2 H3 O2) (hA : ∀ a, kd H2 a ≠ 22 → kd H2 a ≠ 4106 → kd H2 a ≠ 0 → At H3 a = At H2 a) (hZ3 : CoZ G H3 O2 pn t Y3 L3 K B w r Ch) : Stq G (SC O) H O H3 O2 ∧ CoR G H3 O2 pn g2 L3 K B w r Ch := by
  have e := hA pn (by rw [hZ2.1]; decide) (by rw [hZ2.1]; decide) (by rw [hZ2.1]; decide)
  have t1 := hP2.pos.1
  exact ⟨s2.tr2 s3 (fun b hb e => by rw [s2.2.1 b hb] at e; exact Or.inl e), t, p, Y3, (at_gR e 1).trans r1, hP2.ks s3 (fun a _ e => ⟨by omega, fun h => by omega, by omega⟩), hZ3⟩
theorem co_addTray {x y l a k : Int32} (hd : 10 ≤ d) (hC : CoR G H O pn g L K B w r Ch) (hI : IG g) (hQ : c_addTray g x y l a k = 0 → ∀ H' O', Stq G (SC O) H O H' O' → CoR G H' O' pn (trayG g x y l a k) (keepL L g) K B w r Ch → Qr (some (vI (nI (nat g 40)))) H') (hX1 : c_addTray g x y l a k = 1 → ∀ q H' O', Stq G (SC O) H O H' O' → CoR G H' O' pn g L K B w r Ch → Qx "java/lang/IndexOutOfBoundsException" q H') (hX2 : c_addTray g x y l a k = 2 → ∀ q H' O', Stq G (SC O) H O H' O' → CoR G H' O' pn g L K B w r Ch → Qx "java/lang/IllegalArgumentException" q H') (hX3 : c_addTray g x y l a k = 3 → ∀ q H' O', Stq G (SC O) H O H' O' → CoR G H' O' pn g L K B w r Ch → Qx "java/lang/IllegalStateException" q H') : AMet G d 177 1652 yX1_addTray wX1_addTray H [vR (some pn), vI x, vI y, vI l, vI a, vI k] Qr Qx := by
  obtain ⟨t, p, Y, r1, hP, hZ⟩ := hC
  have kp := hZ.1
  have kpl := hP.pos.2.1
  refine AMet.of (M := mX1_addTray) (maxL := 8) (by first | rfl | decide +kernel) rfl (Nat.le_of_ble_eq_true rfl) ?_
  show AW mX1_addTray _ _ _ _ _ _ _ 0 [some (vR (some pn)), some (vI x), some (vI y), some (vI l), some (vI a), some (vI k), none, none] []
  refine r_aload_n (i := 0) dX1_addTray_0 rfl rfl ?_
  refine r_getR dX1_addTray_1 fR_X1_37 (by first | assumption | (simp only [kd_sI, kd_sR, kd_sA, kd_sQ, kd_sL, kd_sD, ln_sI, ln_sR, ln_sA, ln_sQ, ln_sL, ln_sD, gI_sR, gI_sA, gI_sQ, gI_sL, gI_sD, gR_sI, gR_sA, gR_sQ, gR_sL, gR_sD, gA_sI, gA_sR, gA_sQ, gA_sL, gA_sD, gQ_sI, gQ_sR, gQ_sA, gQ_sL, gQ_sD, gL_sI, gL_sR, gL_sA, gL_sQ, gL_sD]; assumption) | simp [kd_sI, kd_sR, kd_sA, kd_sQ, kd_sL, kd_sD, ln_sI, ln_sR, ln_sA, ln_sQ, ln_sL, ln_sD, gI_sR, gI_sA, gI_sQ, gI_sL, gI_sD, gR_sI, gR_sA, gR_sQ, gR_sL, gR_sD, gA_sI, gA_sR, gA_sQ, gA_sL, gA_sD, gQ_sI, gQ_sR, gQ_sA, gQ_sL, gQ_sD, gL_sI, gL_sR, gL_sA, gL_sQ, gL_sD, kd_nO, kd_nA, *]) (by first | assumption | exact gI_sIs | exact gR_sRs | with_reducible rfl | (simp only [kd_sI, kd_sR, kd_sA, kd_sQ, kd_sL, kd_sD, ln_sI, ln_sR, ln_sA, ln_sQ, ln_sL, ln_sD, gI_sR, gI_sA, gI_sQ, gI_sL, gI_sD, gR_sI, gR_sA, gR_sQ, gR_sL, gR_sD, gA_sI, gA_sR, gA_sQ, gA_sL, gA_sD, gQ_sI, gQ_sR, gQ_sA, gQ_sL, gQ_sD, gL_sI, gL_sR, gL_sA, gL_sQ, gL_sD]; first | done | assumption | with_reducible rfl) | rfl) ?_
  refine r_callV (As := []) (mc' := 168) (ms' := 1590) dX1_addTray_4 k_X1_82 rfl (by first | assumption | (simp only [kd_sI, kd_sR, kd_sA, kd_sQ, kd_sL, kd_sD, ln_sI, ln_sR, ln_sA, ln_sQ, ln_sL, ln_sD, gI_sR, gI_sA, gI_sQ, gI_sL, gI_sD, gR_sI, gR_sA, gR_sQ, gR_sL, gR_sD, gA_sI, gA_sR, gA_sQ, gA_sL, gA_sD, gQ_sI, gQ_sR, gQ_sA, gQ_sL, gQ_sD, gL_sI, gL_sR, gL_sA, gL_sQ, gL_sD]; assumption) | simp [kd_sI, kd_sR, kd_sA, kd_sQ, kd_sL, kd_sD, ln_sI, ln_sR, ln_sA, ln_sQ, ln_sL, ln_sD, gI_sR, gI_sA, gI_sQ, gI_sL, gI_sD, gR_sI, gR_sA, gR_sQ, gR_sL, gR_sD, gA_sI, gA_sR, gA_sQ, gA_sL, gA_sD, gQ_sI, gQ_sR, gQ_sA, gQ_sL, gQ_sD, gL_sI, gL_sR, gL_sA, gL_sQ, gL_sD, kd_nO, kd_nA, *]) (T := TX2) (N := 8) rfl (by first | assumption | omega) (by first | assumption | omega) (by first | assumption | omega) (Nat.le_of_ble_eq_true rfl) ?_
  refine c_planCopy (by omega) hP hI.2.2.2.2.2.2.2.1 (fun H1 O1 t' q s1 ht' hT hq0 hP' => ?_)
  have e1 := s1.1.at (a := pn) (by rw [kp]; decide) (fun h => h)
  have kp1 : kd H1 pn = 1 := by rw [at_kd e1]; exact kp
  have r11 : gR H1 1 pn = some p := by rw [at_gR e1]; exact r1
  have P1 := hP.ks s1 (fun _ _ h => h.elim)
  have kpl1 := P1.pos.2.1
  have C1 : CoR G H1 O1 pn g L K B w r Ch := ⟨t, p, Y, r11, P1, hZ.k0 s1⟩
  have s1c : Stq G (SC O) H O H1 O1 := s1.mono (fun _ _ h => h.elim)
  obtain ⟨A, P1A⟩ := P1
  show AW mX1_addTray G d Qr Qx _ _ H1 7 _ _
  refine r_astore dX1_addTray_7 (Nat.le_of_ble_eq_true rfl) (by simp only [lset]; rfl) ?_
  refine r_aload_n (i := 0) dX1_addTray_9 rfl rfl ?_
  refine r_getR dX1_addTray_10 fR_X1_37 (by first | assumption | (simp only [kd_sI, kd_sR, kd_sA, kd_sQ, kd_sL, kd_sD, ln_sI, ln_sR, ln_sA, ln_sQ, ln_sL, ln_sD, gI_sR, gI_sA, gI_sQ, gI_sL, gI_sD, gR_sI, gR_sA, gR_sQ, gR_sL, gR_sD, gA_sI, gA_sR, gA_sQ, gA_sL, gA_sD, gQ_sI, gQ_sR, gQ_sA, gQ_sL, gQ_sD, gL_sI, gL_sR, gL_sA, gL_sQ, gL_sD]; assumption) | simp [kd_sI, kd_sR, kd_sA, kd_sQ, kd_sL, kd_sD, ln_sI, ln_sR, ln_sA, ln_sQ, ln_sL, ln_sD, gI_sR, gI_sA, gI_sQ, gI_sL, gI_sD, gR_sI, gR_sA, gR_sQ, gR_sL, gR_sD, gA_sI, gA_sR, gA_sQ, gA_sL, gA_sD, gQ_sI, gQ_sR, gQ_sA, gQ_sL, gQ_sD, gL_sI, gL_sR, gL_sA, gL_sQ, gL_sD, kd_nO, kd_nA, *]) (by first | assumption | exact gI_sIs | exact gR_sRs | with_reducible rfl | (simp only [kd_sI, kd_sR, kd_sA, kd_sQ, kd_sL, kd_sD, ln_sI, ln_sR, ln_sA, ln_sQ, ln_sL, ln_sD, gI_sR, gI_sA, gI_sQ, gI_sL, gI_sD, gR_sI, gR_sA, gR_sQ, gR_sL, gR_sD, gA_sI, gA_sR, gA_sQ, gA_sL, gA_sD, gQ_sI, gQ_sR, gQ_sA, gQ_sL, gQ_sD, gL_sI, gL_sR, gL_sA, gL_sQ, gL_sD]; first | done | assumption | with_reducible rfl) | rfl) ?_
  refine r_iload_n (i := 1) dX1_addTray_13 rfl rfl ?_
  refine r_iload_n (i := 2) dX1_addTray_14 rfl rfl ?_
  refine r_iload_n (i := 3) dX1_addTray_15 rfl rfl ?_
  refine r_iload dX1_addTray_16 rfl ?_
  refine r_iload dX1_addTray_18 rfl ?_
  refine r_callV (As := [_, _, _, _, _]) (mc' := 9) (ms' := 62) dX1_addTray_20 k_X1_99 rfl (by first | assumption | (simp only [kd_sI, kd_sR, kd_sA, kd_sQ, kd_sL, kd_sD, ln_sI, ln_sR, ln_sA, ln_sQ, ln_sL, ln_sD, gI_sR, gI_sA, gI_sQ, gI_sL, gI_sD, gR_sI, gR_sA, gR_sQ, gR_sL, gR_sD, gA_sI, gA_sR, gA_sQ, gA_sL, gA_sD, gQ_sI, gQ_sR, gQ_sA, gQ_sL, gQ_sD, gL_sI, gL_sR, gL_sA, gL_sQ, gL_sD]; assumption) | simp [kd_sI, kd_sR, kd_sA, kd_sQ, kd_sL, kd_sD, ln_sI, ln_sR, ln_sA, ln_sQ, ln_sL, ln_sD, gI_sR, gI_sA, gI_sQ, gI_sL, gI_sD, gR_sI, gR_sA, gR_sQ, gR_sL, gR_sD, gA_sI, gA_sR, gA_sQ, gA_sL, gA_sD, gQ_sI, gQ_sR, gQ_sA, gQ_sL, gQ_sD, gL_sI, gL_sR, gL_sA, gL_sQ, gL_sD, kd_nO, kd_nA, *]) (T := TX2) (N := 8) rfl (by first | assumption | omega) (by first | assumption | omega) (by first | assumption | omega) (Nat.le_of_ble_eq_true rfl) ?_
  refine pl_addTray (by omega) P1A hI (fun hc H2 O2 s2 hP2 => ?_) (fun hc q => x_out (by decide) (hX1 hc q H1 O1 s1c C1)) (fun hc q => x_out (by decide) (hX2 hc q H1 O1 s1c C1)) (fun hc q => x_out (by decide) (hX3 hc q H1 O1 s1c C1))
  obtain ⟨hZ2, P2', n1, n2, n3, s12, r12⟩ := ch_mid r1 hP hZ s1 hT hP' s2
  have kp2 := hZ2.1
  show AW mX1_addTray G d Qr Qx _ _ H2 23 _ _
  refine r_istore dX1_addTray_23 (Nat.le_of_ble_eq_true rfl) (by simp only [lset]; rfl) ?_
  refine r_aload_n (i := 0) dX1_addTray_25 rfl rfl ?_
  refine r_aload dX1_addTray_26 rfl ?_
  refine r_callV (As := [_]) (mc' := 0) (ms' := 0) dX1_addTray_28 k_X1_86 rfl (by first | assumption | (simp only [kd_sI, kd_sR, kd_sA, kd_sQ, kd_sL, kd_sD, ln_sI, ln_sR, ln_sA, ln_sQ, ln_sL, ln_sD, gI_sR, gI_sA, gI_sQ, gI_sL, gI_sD, gR_sI, gR_sA, gR_sQ, gR_sL, gR_sD, gA_sI, gA_sR, gA_sQ, gA_sL, gA_sD, gQ_sI, gQ_sR, gQ_sA, gQ_sL, gQ_sD, gL_sI, gL_sR, gL_sA, gL_sQ, gL_sD]; assumption) | simp [kd_sI, kd_sR, kd_sA, kd_sQ, kd_sL, kd_sD, ln_sI, ln_sR, ln_sA, ln_sQ, ln_sL, ln_sD, gI_sR, gI_sA, gI_sQ, gI_sL, gI_sD, gR_sI, gR_sA, gR_sQ, gR_sL, gR_sD, gA_sI, gA_sR, gA_sQ, gA_sL, gA_sD, gQ_sI, gQ_sR, gQ_sA, gQ_sL, gQ_sD, gL_sI, gL_sR, gL_sA, gL_sQ, gL_sD, kd_nO, kd_nA, *]) (T := TX1) (N := 7) rfl (by first | assumption | omega) (by first | assumption | omega) (by first | assumption | omega) (Nat.le_of_ble_eq_true rfl) ?_
  refine co_keep (by omega) hZ2 P2' n1 n2 n3 (fun H3 Y3 s3 hA hZ3 => ?_)
  obtain ⟨s13, C3⟩ := ch_end s12 hP2 r12 hZ2 s3 hA hZ3
  show AW mX1_addTray G d Qr Qx _ _ H3 31 _ _
  refine r_iload dX1_addTray_31 rfl ?_
  refine r_ireturn dX1_addTray_33 rfl (by first | rfl | assumption | exact vp_nar_int _ | exact pk_nc _) ?_
  exact hQ hc H3 O2 s13 C3
theorem co_addCable {y x z : Int32} (hd : 10 ≤ d) (hC : CoR G H O pn g L K B w r Ch) (hI : IG g) (hQ : c_addCable g y x z = 0 → ∀ H' O', Stq G (SC O) H O H' O' → CoR G H' O' pn (cableG g y x z) (keepL L g) K B w r Ch → Qr (some (vI (nI (nat g 101)))) H') (hX1 : c_addCable g y x z = 1 → ∀ q H' O', Stq G (SC O) H O H' O' → CoR G H' O' pn g L K B w r Ch → Qx "java/lang/IndexOutOfBoundsException" q H') (hX2 : c_addCable g y x z = 2 → ∀ q H' O', Stq G (SC O) H O H' O' → CoR G H' O' pn g L K B w r Ch → Qx "java/lang/IllegalArgumentException" q H') (hX3 : c_addCable g y x z = 3 → ∀ q H' O', Stq G (SC O) H O H' O' → CoR G H' O' pn g L K B w r Ch → Qx "java/lang/IllegalStateException" q H') : AMet G d 176 1652 yX1_addCable wX1_addCable H [vR (some pn), vI y, vI x, vI z] Qr Qx := by
  obtain ⟨t, p, Y, r1, hP, hZ⟩ := hC
  have kp := hZ.1
  have kpl := hP.pos.2.1
  refine AMet.of (M := mX1_addCable) (maxL := 6) (by first | rfl | decide +kernel) rfl (Nat.le_of_ble_eq_true rfl) ?_
  show AW mX1_addCable _ _ _ _ _ _ _ 0 [some (vR (some pn)), some (vI y), some (vI x), some (vI z), none, none] []
  refine r_aload_n (i := 0) dX1_addCable_0 rfl rfl ?_
  refine r_getR dX1_addCable_1 fR_X1_37 (by first | assumption | (simp only [kd_sI, kd_sR, kd_sA, kd_sQ, kd_sL, kd_sD, ln_sI, ln_sR, ln_sA, ln_sQ, ln_sL, ln_sD, gI_sR, gI_sA, gI_sQ, gI_sL, gI_sD, gR_sI, gR_sA, gR_sQ, gR_sL, gR_sD, gA_sI, gA_sR, gA_sQ, gA_sL, gA_sD, gQ_sI, gQ_sR, gQ_sA, gQ_sL, gQ_sD, gL_sI, gL_sR, gL_sA, gL_sQ, gL_sD]; assumption) | simp [kd_sI, kd_sR, kd_sA, kd_sQ, kd_sL, kd_sD, ln_sI, ln_sR, ln_sA, ln_sQ, ln_sL, ln_sD, gI_sR, gI_sA, gI_sQ, gI_sL, gI_sD, gR_sI, gR_sA, gR_sQ, gR_sL, gR_sD, gA_sI, gA_sR, gA_sQ, gA_sL, gA_sD, gQ_sI, gQ_sR, gQ_sA, gQ_sL, gQ_sD, gL_sI, gL_sR, gL_sA, gL_sQ, gL_sD, kd_nO, kd_nA, *]) (by first | assumption | exact gI_sIs | exact gR_sRs | with_reducible rfl | (simp only [kd_sI, kd_sR, kd_sA, kd_sQ, kd_sL, kd_sD, ln_sI, ln_sR, ln_sA, ln_sQ, ln_sL, ln_sD, gI_sR, gI_sA, gI_sQ, gI_sL, gI_sD, gR_sI, gR_sA, gR_sQ, gR_sL, gR_sD, gA_sI, gA_sR, gA_sQ, gA_sL, gA_sD, gQ_sI, gQ_sR, gQ_sA, gQ_sL, gQ_sD, gL_sI, gL_sR, gL_sA, gL_sQ, gL_sD]; first | done | assumption | with_reducible rfl) | rfl) ?_
  refine r_callV (As := []) (mc' := 168) (ms' := 1590) dX1_addCable_4 k_X1_82 rfl (by first | assumption | (simp only [kd_sI, kd_sR, kd_sA, kd_sQ, kd_sL, kd_sD, ln_sI, ln_sR, ln_sA, ln_sQ, ln_sL, ln_sD, gI_sR, gI_sA, gI_sQ, gI_sL, gI_sD, gR_sI, gR_sA, gR_sQ, gR_sL, gR_sD, gA_sI, gA_sR, gA_sQ, gA_sL, gA_sD, gQ_sI, gQ_sR, gQ_sA, gQ_sL, gQ_sD, gL_sI, gL_sR, gL_sA, gL_sQ, gL_sD]; assumption) | simp [kd_sI, kd_sR, kd_sA, kd_sQ, kd_sL, kd_sD, ln_sI, ln_sR, ln_sA, ln_sQ, ln_sL, ln_sD, gI_sR, gI_sA, gI_sQ, gI_sL, gI_sD, gR_sI, gR_sA, gR_sQ, gR_sL, gR_sD, gA_sI, gA_sR, gA_sQ, gA_sL, gA_sD, gQ_sI, gQ_sR, gQ_sA, gQ_sL, gQ_sD, gL_sI, gL_sR, gL_sA, gL_sQ, gL_sD, kd_nO, kd_nA, *]) (T := TX2) (N := 8) rfl (by first | assumption | omega) (by first | assumption | omega) (by first | assumption | omega) (Nat.le_of_ble_eq_true rfl) ?_
  refine c_planCopy (by omega) hP hI.2.2.2.2.2.2.2.1 (fun H1 O1 t' q s1 ht' hT hq0 hP' => ?_)
  have e1 := s1.1.at (a := pn) (by rw [kp]; decide) (fun h => h)
  have kp1 : kd H1 pn = 1 := by rw [at_kd e1]; exact kp
  have r11 : gR H1 1 pn = some p := by rw [at_gR e1]; exact r1
  have P1 := hP.ks s1 (fun _ _ h => h.elim)
  have kpl1 := P1.pos.2.1
  have C1 : CoR G H1 O1 pn g L K B w r Ch := ⟨t, p, Y, r11, P1, hZ.k0 s1⟩
  have s1c : Stq G (SC O) H O H1 O1 := s1.mono (fun _ _ h => h.elim)
  obtain ⟨A, P1A⟩ := P1
  show AW mX1_addCable G d Qr Qx _ _ H1 7 _ _
  refine r_astore dX1_addCable_7 (Nat.le_of_ble_eq_true rfl) (by simp only [lset]; rfl) ?_
  refine r_aload_n (i := 0) dX1_addCable_9 rfl rfl ?_
  refine r_getR dX1_addCable_10 fR_X1_37 (by first | assumption | (simp only [kd_sI, kd_sR, kd_sA, kd_sQ, kd_sL, kd_sD, ln_sI, ln_sR, ln_sA, ln_sQ, ln_sL, ln_sD, gI_sR, gI_sA, gI_sQ, gI_sL, gI_sD, gR_sI, gR_sA, gR_sQ, gR_sL, gR_sD, gA_sI, gA_sR, gA_sQ, gA_sL, gA_sD, gQ_sI, gQ_sR, gQ_sA, gQ_sL, gQ_sD, gL_sI, gL_sR, gL_sA, gL_sQ, gL_sD]; assumption) | simp [kd_sI, kd_sR, kd_sA, kd_sQ, kd_sL, kd_sD, ln_sI, ln_sR, ln_sA, ln_sQ, ln_sL, ln_sD, gI_sR, gI_sA, gI_sQ, gI_sL, gI_sD, gR_sI, gR_sA, gR_sQ, gR_sL, gR_sD, gA_sI, gA_sR, gA_sQ, gA_sL, gA_sD, gQ_sI, gQ_sR, gQ_sA, gQ_sL, gQ_sD, gL_sI, gL_sR, gL_sA, gL_sQ, gL_sD, kd_nO, kd_nA, *]) (by first | assumption | exact gI_sIs | exact gR_sRs | with_reducible rfl | (simp only [kd_sI, kd_sR, kd_sA, kd_sQ, kd_sL, kd_sD, ln_sI, ln_sR, ln_sA, ln_sQ, ln_sL, ln_sD, gI_sR, gI_sA, gI_sQ, gI_sL, gI_sD, gR_sI, gR_sA, gR_sQ, gR_sL, gR_sD, gA_sI, gA_sR, gA_sQ, gA_sL, gA_sD, gQ_sI, gQ_sR, gQ_sA, gQ_sL, gQ_sD, gL_sI, gL_sR, gL_sA, gL_sQ, gL_sD]; first | done | assumption | with_reducible rfl) | rfl) ?_
  refine r_iload_n (i := 1) dX1_addCable_13 rfl rfl ?_
  refine r_iload_n (i := 2) dX1_addCable_14 rfl rfl ?_
  refine r_iload_n (i := 3) dX1_addCable_15 rfl rfl ?_
  refine r_callV (As := [_, _, _]) (mc' := 8) (ms' := 62) dX1_addCable_16 k_X1_107 rfl (by first | assumption | (simp only [kd_sI, kd_sR, kd_sA, kd_sQ, kd_sL, kd_sD, ln_sI, ln_sR, ln_sA, ln_sQ, ln_sL, ln_sD, gI_sR, gI_sA, gI_sQ, gI_sL, gI_sD, gR_sI, gR_sA, gR_sQ, gR_sL, gR_sD, gA_sI, gA_sR, gA_sQ, gA_sL, gA_sD, gQ_sI, gQ_sR, gQ_sA, gQ_sL, gQ_sD, gL_sI, gL_sR, gL_sA, gL_sQ, gL_sD]; assumption) | simp [kd_sI, kd_sR, kd_sA, kd_sQ, kd_sL, kd_sD, ln_sI, ln_sR, ln_sA, ln_sQ, ln_sL, ln_sD, gI_sR, gI_sA, gI_sQ, gI_sL, gI_sD, gR_sI, gR_sA, gR_sQ, gR_sL, gR_sD, gA_sI, gA_sR, gA_sQ, gA_sL, gA_sD, gQ_sI, gQ_sR, gQ_sA, gQ_sL, gQ_sD, gL_sI, gL_sR, gL_sA, gL_sQ, gL_sD, kd_nO, kd_nA, *]) (T := TX2) (N := 8) rfl (by first | assumption | omega) (by first | assumption | omega) (by first | assumption | omega) (Nat.le_of_ble_eq_true rfl) ?_
  refine pl_addCable (by omega) P1A hI (fun hc H2 O2 s2 hP2 => ?_) (fun hc q => x_out (by decide) (hX1 hc q H1 O1 s1c C1)) (fun hc q => x_out (by decide) (hX2 hc q H1 O1 s1c C1)) (fun hc q => x_out (by decide) (hX3 hc q H1 O1 s1c C1))
  obtain ⟨hZ2, P2', n1, n2, n3, s12, r12⟩ := ch_mid r1 hP hZ s1 hT hP' s2
  have kp2 := hZ2.1
  show AW mX1_addCable G d Qr Qx _ _ H2 19 _ _
  refine r_istore dX1_addCable_19 (Nat.le_of_ble_eq_true rfl) (by simp only [lset]; rfl) ?_
  refine r_aload_n (i := 0) dX1_addCable_21 rfl rfl ?_
  refine r_aload dX1_addCable_22 rfl ?_
  refine r_callV (As := [_]) (mc' := 0) (ms' := 0) dX1_addCable_24 k_X1_86 rfl (by first | assumption | (simp only [kd_sI, kd_sR, kd_sA, kd_sQ, kd_sL, kd_sD, ln_sI, ln_sR, ln_sA, ln_sQ, ln_sL, ln_sD, gI_sR, gI_sA, gI_sQ, gI_sL, gI_sD, gR_sI, gR_sA, gR_sQ, gR_sL, gR_sD, gA_sI, gA_sR, gA_sQ, gA_sL, gA_sD, gQ_sI, gQ_sR, gQ_sA, gQ_sL, gQ_sD, gL_sI, gL_sR, gL_sA, gL_sQ, gL_sD]; assumption) | simp [kd_sI, kd_sR, kd_sA, kd_sQ, kd_sL, kd_sD, ln_sI, ln_sR, ln_sA, ln_sQ, ln_sL, ln_sD, gI_sR, gI_sA, gI_sQ, gI_sL, gI_sD, gR_sI, gR_sA, gR_sQ, gR_sL, gR_sD, gA_sI, gA_sR, gA_sQ, gA_sL, gA_sD, gQ_sI, gQ_sR, gQ_sA, gQ_sL, gQ_sD, gL_sI, gL_sR, gL_sA, gL_sQ, gL_sD, kd_nO, kd_nA, *]) (T := TX1) (N := 7) rfl (by first | assumption | omega) (by first | assumption | omega) (by first | assumption | omega) (Nat.le_of_ble_eq_true rfl) ?_
  refine co_keep (by omega) hZ2 P2' n1 n2 n3 (fun H3 Y3 s3 hA hZ3 => ?_)
  obtain ⟨s13, C3⟩ := ch_end s12 hP2 r12 hZ2 s3 hA hZ3
  show AW mX1_addCable G d Qr Qx _ _ H3 27 _ _
  refine r_iload dX1_addCable_27 rfl ?_
  refine r_ireturn dX1_addCable_29 rfl (by first | rfl | assumption | exact vp_nar_int _ | exact pk_nc _) ?_
  exact hQ hc H3 O2 s13 C3
theorem co_addDrum {y x : Int32} (hd : 10 ≤ d) (hC : CoR G H O pn g L K B w r Ch) (hI : IG g) (hQ : c_addDrum g y x = 0 → ∀ H' O', Stq G (SC O) H O H' O' → CoR G H' O' pn (drumG g y x) (keepL L g) K B w r Ch → Qr (some (vI (nI (nat g 354)))) H') (hX1 : c_addDrum g y x = 1 → ∀ q H' O', Stq G (SC O) H O H' O' → CoR G H' O' pn g L K B w r Ch → Qx "java/lang/IndexOutOfBoundsException" q H') (hX2 : c_addDrum g y x = 2 → ∀ q H' O', Stq G (SC O) H O H' O' → CoR G H' O' pn g L K B w r Ch → Qx "java/lang/IllegalArgumentException" q H') (hX3 : c_addDrum g y x = 3 → ∀ q H' O', Stq G (SC O) H O H' O' → CoR G H' O' pn g L K B w r Ch → Qx "java/lang/IllegalStateException" q H') : AMet G d 173 1633 yX1_addDrum wX1_addDrum H [vR (some pn), vI y, vI x] Qr Qx := by
  obtain ⟨t, p, Y, r1, hP, hZ⟩ := hC
  have kp := hZ.1
  have kpl := hP.pos.2.1
  refine AMet.of (M := mX1_addDrum) (maxL := 5) (by first | rfl | decide +kernel) rfl (Nat.le_of_ble_eq_true rfl) ?_
  show AW mX1_addDrum _ _ _ _ _ _ _ 0 [some (vR (some pn)), some (vI y), some (vI x), none, none] []
  refine r_aload_n (i := 0) dX1_addDrum_0 rfl rfl ?_
  refine r_getR dX1_addDrum_1 fR_X1_37 (by first | assumption | (simp only [kd_sI, kd_sR, kd_sA, kd_sQ, kd_sL, kd_sD, ln_sI, ln_sR, ln_sA, ln_sQ, ln_sL, ln_sD, gI_sR, gI_sA, gI_sQ, gI_sL, gI_sD, gR_sI, gR_sA, gR_sQ, gR_sL, gR_sD, gA_sI, gA_sR, gA_sQ, gA_sL, gA_sD, gQ_sI, gQ_sR, gQ_sA, gQ_sL, gQ_sD, gL_sI, gL_sR, gL_sA, gL_sQ, gL_sD]; assumption) | simp [kd_sI, kd_sR, kd_sA, kd_sQ, kd_sL, kd_sD, ln_sI, ln_sR, ln_sA, ln_sQ, ln_sL, ln_sD, gI_sR, gI_sA, gI_sQ, gI_sL, gI_sD, gR_sI, gR_sA, gR_sQ, gR_sL, gR_sD, gA_sI, gA_sR, gA_sQ, gA_sL, gA_sD, gQ_sI, gQ_sR, gQ_sA, gQ_sL, gQ_sD, gL_sI, gL_sR, gL_sA, gL_sQ, gL_sD, kd_nO, kd_nA, *]) (by first | assumption | exact gI_sIs | exact gR_sRs | with_reducible rfl | (simp only [kd_sI, kd_sR, kd_sA, kd_sQ, kd_sL, kd_sD, ln_sI, ln_sR, ln_sA, ln_sQ, ln_sL, ln_sD, gI_sR, gI_sA, gI_sQ, gI_sL, gI_sD, gR_sI, gR_sA, gR_sQ, gR_sL, gR_sD, gA_sI, gA_sR, gA_sQ, gA_sL, gA_sD, gQ_sI, gQ_sR, gQ_sA, gQ_sL, gQ_sD, gL_sI, gL_sR, gL_sA, gL_sQ, gL_sD]; first | done | assumption | with_reducible rfl) | rfl) ?_
  refine r_callV (As := []) (mc' := 168) (ms' := 1590) dX1_addDrum_4 k_X1_82 rfl (by first | assumption | (simp only [kd_sI, kd_sR, kd_sA, kd_sQ, kd_sL, kd_sD, ln_sI, ln_sR, ln_sA, ln_sQ, ln_sL, ln_sD, gI_sR, gI_sA, gI_sQ, gI_sL, gI_sD, gR_sI, gR_sA, gR_sQ, gR_sL, gR_sD, gA_sI, gA_sR, gA_sQ, gA_sL, gA_sD, gQ_sI, gQ_sR, gQ_sA, gQ_sL, gQ_sD, gL_sI, gL_sR, gL_sA, gL_sQ, gL_sD]; assumption) | simp [kd_sI, kd_sR, kd_sA, kd_sQ, kd_sL, kd_sD, ln_sI, ln_sR, ln_sA, ln_sQ, ln_sL, ln_sD, gI_sR, gI_sA, gI_sQ, gI_sL, gI_sD, gR_sI, gR_sA, gR_sQ, gR_sL, gR_sD, gA_sI, gA_sR, gA_sQ, gA_sL, gA_sD, gQ_sI, gQ_sR, gQ_sA, gQ_sL, gQ_sD, gL_sI, gL_sR, gL_sA, gL_sQ, gL_sD, kd_nO, kd_nA, *]) (T := TX2) (N := 8) rfl (by first | assumption | omega) (by first | assumption | omega) (by first | assumption | omega) (Nat.le_of_ble_eq_true rfl) ?_
  refine c_planCopy (by omega) hP hI.2.2.2.2.2.2.2.1 (fun H1 O1 t' q s1 ht' hT hq0 hP' => ?_)
  have e1 := s1.1.at (a := pn) (by rw [kp]; decide) (fun h => h)
  have kp1 : kd H1 pn = 1 := by rw [at_kd e1]; exact kp
  have r11 : gR H1 1 pn = some p := by rw [at_gR e1]; exact r1
  have P1 := hP.ks s1 (fun _ _ h => h.elim)
  have kpl1 := P1.pos.2.1
  have C1 : CoR G H1 O1 pn g L K B w r Ch := ⟨t, p, Y, r11, P1, hZ.k0 s1⟩
  have s1c : Stq G (SC O) H O H1 O1 := s1.mono (fun _ _ h => h.elim)
  obtain ⟨A, P1A⟩ := P1
  show AW mX1_addDrum G d Qr Qx _ _ H1 7 _ _
  refine r_astore_n (i := 3) dX1_addDrum_7 rfl (Nat.le_of_ble_eq_true rfl) (by simp only [lset]; rfl) ?_
  refine r_aload_n (i := 0) dX1_addDrum_8 rfl rfl ?_
  refine r_getR dX1_addDrum_9 fR_X1_37 (by first | assumption | (simp only [kd_sI, kd_sR, kd_sA, kd_sQ, kd_sL, kd_sD, ln_sI, ln_sR, ln_sA, ln_sQ, ln_sL, ln_sD, gI_sR, gI_sA, gI_sQ, gI_sL, gI_sD, gR_sI, gR_sA, gR_sQ, gR_sL, gR_sD, gA_sI, gA_sR, gA_sQ, gA_sL, gA_sD, gQ_sI, gQ_sR, gQ_sA, gQ_sL, gQ_sD, gL_sI, gL_sR, gL_sA, gL_sQ, gL_sD]; assumption) | simp [kd_sI, kd_sR, kd_sA, kd_sQ, kd_sL, kd_sD, ln_sI, ln_sR, ln_sA, ln_sQ, ln_sL, ln_sD, gI_sR, gI_sA, gI_sQ, gI_sL, gI_sD, gR_sI, gR_sA, gR_sQ, gR_sL, gR_sD, gA_sI, gA_sR, gA_sQ, gA_sL, gA_sD, gQ_sI, gQ_sR, gQ_sA, gQ_sL, gQ_sD, gL_sI, gL_sR, gL_sA, gL_sQ, gL_sD, kd_nO, kd_nA, *]) (by first | assumption | exact gI_sIs | exact gR_sRs | with_reducible rfl | (simp only [kd_sI, kd_sR, kd_sA, kd_sQ, kd_sL, kd_sD, ln_sI, ln_sR, ln_sA, ln_sQ, ln_sL, ln_sD, gI_sR, gI_sA, gI_sQ, gI_sL, gI_sD, gR_sI, gR_sA, gR_sQ, gR_sL, gR_sD, gA_sI, gA_sR, gA_sQ, gA_sL, gA_sD, gQ_sI, gQ_sR, gQ_sA, gQ_sL, gQ_sD, gL_sI, gL_sR, gL_sA, gL_sQ, gL_sD]; first | done | assumption | with_reducible rfl) | rfl) ?_
  refine r_iload_n (i := 1) dX1_addDrum_12 rfl rfl ?_
  refine r_iload_n (i := 2) dX1_addDrum_13 rfl rfl ?_
  refine r_callV (As := [_, _]) (mc' := 5) (ms' := 43) dX1_addDrum_14 k_X1_111 rfl (by first | assumption | (simp only [kd_sI, kd_sR, kd_sA, kd_sQ, kd_sL, kd_sD, ln_sI, ln_sR, ln_sA, ln_sQ, ln_sL, ln_sD, gI_sR, gI_sA, gI_sQ, gI_sL, gI_sD, gR_sI, gR_sA, gR_sQ, gR_sL, gR_sD, gA_sI, gA_sR, gA_sQ, gA_sL, gA_sD, gQ_sI, gQ_sR, gQ_sA, gQ_sL, gQ_sD, gL_sI, gL_sR, gL_sA, gL_sQ, gL_sD]; assumption) | simp [kd_sI, kd_sR, kd_sA, kd_sQ, kd_sL, kd_sD, ln_sI, ln_sR, ln_sA, ln_sQ, ln_sL, ln_sD, gI_sR, gI_sA, gI_sQ, gI_sL, gI_sD, gR_sI, gR_sA, gR_sQ, gR_sL, gR_sD, gA_sI, gA_sR, gA_sQ, gA_sL, gA_sD, gQ_sI, gQ_sR, gQ_sA, gQ_sL, gQ_sD, gL_sI, gL_sR, gL_sA, gL_sQ, gL_sD, kd_nO, kd_nA, *]) (T := TX2) (N := 8) rfl (by first | assumption | omega) (by first | assumption | omega) (by first | assumption | omega) (Nat.le_of_ble_eq_true rfl) ?_
  refine pl_addDrum (by omega) P1A hI (fun hc H2 O2 s2 hP2 => ?_) (fun hc q => x_out (by decide) (hX1 hc q H1 O1 s1c C1)) (fun hc q => x_out (by decide) (hX2 hc q H1 O1 s1c C1)) (fun hc q => x_out (by decide) (hX3 hc q H1 O1 s1c C1))
  obtain ⟨hZ2, P2', n1, n2, n3, s12, r12⟩ := ch_mid r1 hP hZ s1 hT hP' s2
  have kp2 := hZ2.1
  show AW mX1_addDrum G d Qr Qx _ _ H2 17 _ _
  refine r_istore dX1_addDrum_17 (Nat.le_of_ble_eq_true rfl) (by simp only [lset]; rfl) ?_
  refine r_aload_n (i := 0) dX1_addDrum_19 rfl rfl ?_
  refine r_aload_n (i := 3) dX1_addDrum_20 rfl rfl ?_
  refine r_callV (As := [_]) (mc' := 0) (ms' := 0) dX1_addDrum_21 k_X1_86 rfl (by first | assumption | (simp only [kd_sI, kd_sR, kd_sA, kd_sQ, kd_sL, kd_sD, ln_sI, ln_sR, ln_sA, ln_sQ, ln_sL, ln_sD, gI_sR, gI_sA, gI_sQ, gI_sL, gI_sD, gR_sI, gR_sA, gR_sQ, gR_sL, gR_sD, gA_sI, gA_sR, gA_sQ, gA_sL, gA_sD, gQ_sI, gQ_sR, gQ_sA, gQ_sL, gQ_sD, gL_sI, gL_sR, gL_sA, gL_sQ, gL_sD]; assumption) | simp [kd_sI, kd_sR, kd_sA, kd_sQ, kd_sL, kd_sD, ln_sI, ln_sR, ln_sA, ln_sQ, ln_sL, ln_sD, gI_sR, gI_sA, gI_sQ, gI_sL, gI_sD, gR_sI, gR_sA, gR_sQ, gR_sL, gR_sD, gA_sI, gA_sR, gA_sQ, gA_sL, gA_sD, gQ_sI, gQ_sR, gQ_sA, gQ_sL, gQ_sD, gL_sI, gL_sR, gL_sA, gL_sQ, gL_sD, kd_nO, kd_nA, *]) (T := TX1) (N := 7) rfl (by first | assumption | omega) (by first | assumption | omega) (by first | assumption | omega) (Nat.le_of_ble_eq_true rfl) ?_
  refine co_keep (by omega) hZ2 P2' n1 n2 n3 (fun H3 Y3 s3 hA hZ3 => ?_)
  obtain ⟨s13, C3⟩ := ch_end s12 hP2 r12 hZ2 s3 hA hZ3
  show AW mX1_addDrum G d Qr Qx _ _ H3 24 _ _
  refine r_iload dX1_addDrum_24 rfl ?_
  refine r_ireturn dX1_addDrum_26 rfl (by first | rfl | assumption | exact vp_nar_int _ | exact pk_nc _) ?_
  exact hQ hc H3 O2 s13 C3
theorem co_dropTray {c : Int32} (hd : 10 ≤ d) (hC : CoR G H O pn g L K B w r Ch) (hI : IG g) (hQ : ∀ u, c = nI u → u < nat g 40 → c_dropTray g c = 0 → ∀ H' O', Stq G (SC O) H O H' O' → CoR G H' O' pn (dropG g u) (keepL L g) K B w r Ch → Qr (some (vI (nI (nat g 40 - 1)))) H') (hX1 : c_dropTray g c = 1 → ∀ q H' O', Stq G (SC O) H O H' O' → CoR G H' O' pn g L K B w r Ch → Qx "java/lang/IndexOutOfBoundsException" q H') (hX2 : c_dropTray g c = 2 → ∀ q H' O', Stq G (SC O) H O H' O' → CoR G H' O' pn g L K B w r Ch → Qx "java/lang/IllegalStateException" q H') : AMet G d 255 1774 yX1_dropTray wX1_dropTray H [vR (some pn), vI c] Qr Qx := by
  obtain ⟨t, p, Y, r1, hP, hZ⟩ := hC
  have kp := hZ.1
  have kpl := hP.pos.2.1
  refine AMet.of (M := mX1_dropTray) (maxL := 4) (by first | rfl | decide +kernel) rfl (Nat.le_of_ble_eq_true rfl) ?_
  show AW mX1_dropTray _ _ _ _ _ _ _ 0 [some (vR (some pn)), some (vI c), none, none] []
  refine r_aload_n (i := 0) dX1_dropTray_0 rfl rfl ?_
  refine r_getR dX1_dropTray_1 fR_X1_37 (by first | assumption | (simp only [kd_sI, kd_sR, kd_sA, kd_sQ, kd_sL, kd_sD, ln_sI, ln_sR, ln_sA, ln_sQ, ln_sL, ln_sD, gI_sR, gI_sA, gI_sQ, gI_sL, gI_sD, gR_sI, gR_sA, gR_sQ, gR_sL, gR_sD, gA_sI, gA_sR, gA_sQ, gA_sL, gA_sD, gQ_sI, gQ_sR, gQ_sA, gQ_sL, gQ_sD, gL_sI, gL_sR, gL_sA, gL_sQ, gL_sD]; assumption) | simp [kd_sI, kd_sR, kd_sA, kd_sQ, kd_sL, kd_sD, ln_sI, ln_sR, ln_sA, ln_sQ, ln_sL, ln_sD, gI_sR, gI_sA, gI_sQ, gI_sL, gI_sD, gR_sI, gR_sA, gR_sQ, gR_sL, gR_sD, gA_sI, gA_sR, gA_sQ, gA_sL, gA_sD, gQ_sI, gQ_sR, gQ_sA, gQ_sL, gQ_sD, gL_sI, gL_sR, gL_sA, gL_sQ, gL_sD, kd_nO, kd_nA, *]) (by first | assumption | exact gI_sIs | exact gR_sRs | with_reducible rfl | (simp only [kd_sI, kd_sR, kd_sA, kd_sQ, kd_sL, kd_sD, ln_sI, ln_sR, ln_sA, ln_sQ, ln_sL, ln_sD, gI_sR, gI_sA, gI_sQ, gI_sL, gI_sD, gR_sI, gR_sA, gR_sQ, gR_sL, gR_sD, gA_sI, gA_sR, gA_sQ, gA_sL, gA_sD, gQ_sI, gQ_sR, gQ_sA, gQ_sL, gQ_sD, gL_sI, gL_sR, gL_sA, gL_sQ, gL_sD]; first | done | assumption | with_reducible rfl) | rfl) ?_
  refine r_callV (As := []) (mc' := 168) (ms' := 1590) dX1_dropTray_4 k_X1_82 rfl (by first | assumption | (simp only [kd_sI, kd_sR, kd_sA, kd_sQ, kd_sL, kd_sD, ln_sI, ln_sR, ln_sA, ln_sQ, ln_sL, ln_sD, gI_sR, gI_sA, gI_sQ, gI_sL, gI_sD, gR_sI, gR_sA, gR_sQ, gR_sL, gR_sD, gA_sI, gA_sR, gA_sQ, gA_sL, gA_sD, gQ_sI, gQ_sR, gQ_sA, gQ_sL, gQ_sD, gL_sI, gL_sR, gL_sA, gL_sQ, gL_sD]; assumption) | simp [kd_sI, kd_sR, kd_sA, kd_sQ, kd_sL, kd_sD, ln_sI, ln_sR, ln_sA, ln_sQ, ln_sL, ln_sD, gI_sR, gI_sA, gI_sQ, gI_sL, gI_sD, gR_sI, gR_sA, gR_sQ, gR_sL, gR_sD, gA_sI, gA_sR, gA_sQ, gA_sL, gA_sD, gQ_sI, gQ_sR, gQ_sA, gQ_sL, gQ_sD, gL_sI, gL_sR, gL_sA, gL_sQ, gL_sD, kd_nO, kd_nA, *]) (T := TX2) (N := 8) rfl (by first | assumption | omega) (by first | assumption | omega) (by first | assumption | omega) (Nat.le_of_ble_eq_true rfl) ?_
  refine c_planCopy (by omega) hP hI.2.2.2.2.2.2.2.1 (fun H1 O1 t' q s1 ht' hT hq0 hP' => ?_)
  have e1 := s1.1.at (a := pn) (by rw [kp]; decide) (fun h => h)
  have kp1 : kd H1 pn = 1 := by rw [at_kd e1]; exact kp
  have r11 : gR H1 1 pn = some p := by rw [at_gR e1]; exact r1
  have P1 := hP.ks s1 (fun _ _ h => h.elim)
  have kpl1 := P1.pos.2.1
  have C1 : CoR G H1 O1 pn g L K B w r Ch := ⟨t, p, Y, r11, P1, hZ.k0 s1⟩
  have s1c : Stq G (SC O) H O H1 O1 := s1.mono (fun _ _ h => h.elim)
  obtain ⟨A, P1A⟩ := P1
  show AW mX1_dropTray G d Qr Qx _ _ H1 7 _ _
  refine r_astore_n (i := 2) dX1_dropTray_7 rfl (Nat.le_of_ble_eq_true rfl) (by simp only [lset]; rfl) ?_
  refine r_aload_n (i := 0) dX1_dropTray_8 rfl rfl ?_
  refine r_getR dX1_dropTray_9 fR_X1_37 (by first | assumption | (simp only [kd_sI, kd_sR, kd_sA, kd_sQ, kd_sL, kd_sD, ln_sI, ln_sR, ln_sA, ln_sQ, ln_sL, ln_sD, gI_sR, gI_sA, gI_sQ, gI_sL, gI_sD, gR_sI, gR_sA, gR_sQ, gR_sL, gR_sD, gA_sI, gA_sR, gA_sQ, gA_sL, gA_sD, gQ_sI, gQ_sR, gQ_sA, gQ_sL, gQ_sD, gL_sI, gL_sR, gL_sA, gL_sQ, gL_sD]; assumption) | simp [kd_sI, kd_sR, kd_sA, kd_sQ, kd_sL, kd_sD, ln_sI, ln_sR, ln_sA, ln_sQ, ln_sL, ln_sD, gI_sR, gI_sA, gI_sQ, gI_sL, gI_sD, gR_sI, gR_sA, gR_sQ, gR_sL, gR_sD, gA_sI, gA_sR, gA_sQ, gA_sL, gA_sD, gQ_sI, gQ_sR, gQ_sA, gQ_sL, gQ_sD, gL_sI, gL_sR, gL_sA, gL_sQ, gL_sD, kd_nO, kd_nA, *]) (by first | assumption | exact gI_sIs | exact gR_sRs | with_reducible rfl | (simp only [kd_sI, kd_sR, kd_sA, kd_sQ, kd_sL, kd_sD, ln_sI, ln_sR, ln_sA, ln_sQ, ln_sL, ln_sD, gI_sR, gI_sA, gI_sQ, gI_sL, gI_sD, gR_sI, gR_sA, gR_sQ, gR_sL, gR_sD, gA_sI, gA_sR, gA_sQ, gA_sL, gA_sD, gQ_sI, gQ_sR, gQ_sA, gQ_sL, gQ_sD, gL_sI, gL_sR, gL_sA, gL_sQ, gL_sD]; first | done | assumption | with_reducible rfl) | rfl) ?_
  refine r_iload_n (i := 1) dX1_dropTray_12 rfl rfl ?_
  refine r_callV (As := [_]) (mc' := 87) (ms' := 184) dX1_dropTray_13 k_X1_103 rfl (by first | assumption | (simp only [kd_sI, kd_sR, kd_sA, kd_sQ, kd_sL, kd_sD, ln_sI, ln_sR, ln_sA, ln_sQ, ln_sL, ln_sD, gI_sR, gI_sA, gI_sQ, gI_sL, gI_sD, gR_sI, gR_sA, gR_sQ, gR_sL, gR_sD, gA_sI, gA_sR, gA_sQ, gA_sL, gA_sD, gQ_sI, gQ_sR, gQ_sA, gQ_sL, gQ_sD, gL_sI, gL_sR, gL_sA, gL_sQ, gL_sD]; assumption) | simp [kd_sI, kd_sR, kd_sA, kd_sQ, kd_sL, kd_sD, ln_sI, ln_sR, ln_sA, ln_sQ, ln_sL, ln_sD, gI_sR, gI_sA, gI_sQ, gI_sL, gI_sD, gR_sI, gR_sA, gR_sQ, gR_sL, gR_sD, gA_sI, gA_sR, gA_sQ, gA_sL, gA_sD, gQ_sI, gQ_sR, gQ_sA, gQ_sL, gQ_sD, gL_sI, gL_sR, gL_sA, gL_sQ, gL_sD, kd_nO, kd_nA, *]) (T := TX2) (N := 8) rfl (by first | assumption | omega) (by first | assumption | omega) (by first | assumption | omega) (Nat.le_of_ble_eq_true rfl) ?_
  refine pl_dropTray (by omega) P1A hI (fun u ec hu hc H2 O2 s2 hP2 => ?_) (fun hc q => x_out (by decide) (hX1 hc q H1 O1 s1c C1)) (fun hc q => x_out (by decide) (hX2 hc q H1 O1 s1c C1))
  obtain ⟨hZ2, P2', n1, n2, n3, s12, r12⟩ := ch_mid r1 hP hZ s1 hT hP' s2
  have kp2 := hZ2.1
  show AW mX1_dropTray G d Qr Qx _ _ H2 16 _ _
  refine r_istore_n (i := 3) dX1_dropTray_16 rfl (Nat.le_of_ble_eq_true rfl) (by simp only [lset]; rfl) ?_
  refine r_aload_n (i := 0) dX1_dropTray_17 rfl rfl ?_
  refine r_aload_n (i := 2) dX1_dropTray_18 rfl rfl ?_
  refine r_callV (As := [_]) (mc' := 0) (ms' := 0) dX1_dropTray_19 k_X1_86 rfl (by first | assumption | (simp only [kd_sI, kd_sR, kd_sA, kd_sQ, kd_sL, kd_sD, ln_sI, ln_sR, ln_sA, ln_sQ, ln_sL, ln_sD, gI_sR, gI_sA, gI_sQ, gI_sL, gI_sD, gR_sI, gR_sA, gR_sQ, gR_sL, gR_sD, gA_sI, gA_sR, gA_sQ, gA_sL, gA_sD, gQ_sI, gQ_sR, gQ_sA, gQ_sL, gQ_sD, gL_sI, gL_sR, gL_sA, gL_sQ, gL_sD]; assumption) | simp [kd_sI, kd_sR, kd_sA, kd_sQ, kd_sL, kd_sD, ln_sI, ln_sR, ln_sA, ln_sQ, ln_sL, ln_sD, gI_sR, gI_sA, gI_sQ, gI_sL, gI_sD, gR_sI, gR_sA, gR_sQ, gR_sL, gR_sD, gA_sI, gA_sR, gA_sQ, gA_sL, gA_sD, gQ_sI, gQ_sR, gQ_sA, gQ_sL, gQ_sD, gL_sI, gL_sR, gL_sA, gL_sQ, gL_sD, kd_nO, kd_nA, *]) (T := TX1) (N := 7) rfl (by first | assumption | omega) (by first | assumption | omega) (by first | assumption | omega) (Nat.le_of_ble_eq_true rfl) ?_
  refine co_keep (by omega) hZ2 P2' n1 n2 n3 (fun H3 Y3 s3 hA hZ3 => ?_)
  obtain ⟨s13, C3⟩ := ch_end s12 hP2 r12 hZ2 s3 hA hZ3
  show AW mX1_dropTray G d Qr Qx _ _ H3 22 _ _
  refine r_iload_n (i := 3) dX1_dropTray_22 rfl rfl ?_
  refine r_ireturn dX1_dropTray_23 rfl (by first | rfl | assumption | exact vp_nar_int _ | exact pk_nc _) ?_
  exact hQ u ec hu hc H3 O2 s13 C3
theorem co_free {c : Int32} (hd : 10 ≤ d) (hC : CoR G H O pn g L K B w r Ch) (hI : IG g) (hQ : ∀ c0, c = nI c0 → c0 < nat g 101 → isC g c = true → g (105 + 21 * c0) ≠ nI 2 → ∀ H' O', Stq G (SC O) H O H' O' → CoR G H' O' pn (leavesG g c0) (keepL L g) K B w r Ch → Qr (some (vI (g (106 + 21 * c0)))) H') (hX1 : isC g c = false → ∀ q H' O', Stq G (SC O) H O H' O' → CoR G H' O' pn g L K B w r Ch → Qx "java/lang/IndexOutOfBoundsException" q H') (hX2 : (∃ c0, c = nI c0 ∧ c0 < nat g 101 ∧ isC g c = true ∧ g (105 + 21 * c0) = nI 2) → ∀ q H' O', Stq G (SC O) H O H' O' → CoR G H' O' pn g L K B w r Ch → Qx "java/lang/IllegalStateException" q H') : AMet G d 171 1606 yX1_free wX1_free H [vR (some pn), vI c] Qr Qx := by
  obtain ⟨t, p, Y, r1, hP, hZ⟩ := hC
  have kp := hZ.1
  have kpl := hP.pos.2.1
  refine AMet.of (M := mX1_free) (maxL := 4) (by first | rfl | decide +kernel) rfl (Nat.le_of_ble_eq_true rfl) ?_
  show AW mX1_free _ _ _ _ _ _ _ 0 [some (vR (some pn)), some (vI c), none, none] []
  refine r_aload_n (i := 0) dX1_free_0 rfl rfl ?_
  refine r_getR dX1_free_1 fR_X1_37 (by first | assumption | (simp only [kd_sI, kd_sR, kd_sA, kd_sQ, kd_sL, kd_sD, ln_sI, ln_sR, ln_sA, ln_sQ, ln_sL, ln_sD, gI_sR, gI_sA, gI_sQ, gI_sL, gI_sD, gR_sI, gR_sA, gR_sQ, gR_sL, gR_sD, gA_sI, gA_sR, gA_sQ, gA_sL, gA_sD, gQ_sI, gQ_sR, gQ_sA, gQ_sL, gQ_sD, gL_sI, gL_sR, gL_sA, gL_sQ, gL_sD]; assumption) | simp [kd_sI, kd_sR, kd_sA, kd_sQ, kd_sL, kd_sD, ln_sI, ln_sR, ln_sA, ln_sQ, ln_sL, ln_sD, gI_sR, gI_sA, gI_sQ, gI_sL, gI_sD, gR_sI, gR_sA, gR_sQ, gR_sL, gR_sD, gA_sI, gA_sR, gA_sQ, gA_sL, gA_sD, gQ_sI, gQ_sR, gQ_sA, gQ_sL, gQ_sD, gL_sI, gL_sR, gL_sA, gL_sQ, gL_sD, kd_nO, kd_nA, *]) (by first | assumption | exact gI_sIs | exact gR_sRs | with_reducible rfl | (simp only [kd_sI, kd_sR, kd_sA, kd_sQ, kd_sL, kd_sD, ln_sI, ln_sR, ln_sA, ln_sQ, ln_sL, ln_sD, gI_sR, gI_sA, gI_sQ, gI_sL, gI_sD, gR_sI, gR_sA, gR_sQ, gR_sL, gR_sD, gA_sI, gA_sR, gA_sQ, gA_sL, gA_sD, gQ_sI, gQ_sR, gQ_sA, gQ_sL, gQ_sD, gL_sI, gL_sR, gL_sA, gL_sQ, gL_sD]; first | done | assumption | with_reducible rfl) | rfl) ?_
  refine r_callV (As := []) (mc' := 168) (ms' := 1590) dX1_free_4 k_X1_82 rfl (by first | assumption | (simp only [kd_sI, kd_sR, kd_sA, kd_sQ, kd_sL, kd_sD, ln_sI, ln_sR, ln_sA, ln_sQ, ln_sL, ln_sD, gI_sR, gI_sA, gI_sQ, gI_sL, gI_sD, gR_sI, gR_sA, gR_sQ, gR_sL, gR_sD, gA_sI, gA_sR, gA_sQ, gA_sL, gA_sD, gQ_sI, gQ_sR, gQ_sA, gQ_sL, gQ_sD, gL_sI, gL_sR, gL_sA, gL_sQ, gL_sD]; assumption) | simp [kd_sI, kd_sR, kd_sA, kd_sQ, kd_sL, kd_sD, ln_sI, ln_sR, ln_sA, ln_sQ, ln_sL, ln_sD, gI_sR, gI_sA, gI_sQ, gI_sL, gI_sD, gR_sI, gR_sA, gR_sQ, gR_sL, gR_sD, gA_sI, gA_sR, gA_sQ, gA_sL, gA_sD, gQ_sI, gQ_sR, gQ_sA, gQ_sL, gQ_sD, gL_sI, gL_sR, gL_sA, gL_sQ, gL_sD, kd_nO, kd_nA, *]) (T := TX2) (N := 8) rfl (by first | assumption | omega) (by first | assumption | omega) (by first | assumption | omega) (Nat.le_of_ble_eq_true rfl) ?_
  refine c_planCopy (by omega) hP hI.2.2.2.2.2.2.2.1 (fun H1 O1 t' q s1 ht' hT hq0 hP' => ?_)
  have e1 := s1.1.at (a := pn) (by rw [kp]; decide) (fun h => h)
  have kp1 : kd H1 pn = 1 := by rw [at_kd e1]; exact kp
  have r11 : gR H1 1 pn = some p := by rw [at_gR e1]; exact r1
  have P1 := hP.ks s1 (fun _ _ h => h.elim)
  have kpl1 := P1.pos.2.1
  have C1 : CoR G H1 O1 pn g L K B w r Ch := ⟨t, p, Y, r11, P1, hZ.k0 s1⟩
  have s1c : Stq G (SC O) H O H1 O1 := s1.mono (fun _ _ h => h.elim)
  obtain ⟨A, P1A⟩ := P1
  show AW mX1_free G d Qr Qx _ _ H1 7 _ _
  refine r_astore_n (i := 2) dX1_free_7 rfl (Nat.le_of_ble_eq_true rfl) (by simp only [lset]; rfl) ?_
  refine r_aload_n (i := 0) dX1_free_8 rfl rfl ?_
  refine r_getR dX1_free_9 fR_X1_37 (by first | assumption | (simp only [kd_sI, kd_sR, kd_sA, kd_sQ, kd_sL, kd_sD, ln_sI, ln_sR, ln_sA, ln_sQ, ln_sL, ln_sD, gI_sR, gI_sA, gI_sQ, gI_sL, gI_sD, gR_sI, gR_sA, gR_sQ, gR_sL, gR_sD, gA_sI, gA_sR, gA_sQ, gA_sL, gA_sD, gQ_sI, gQ_sR, gQ_sA, gQ_sL, gQ_sD, gL_sI, gL_sR, gL_sA, gL_sQ, gL_sD]; assumption) | simp [kd_sI, kd_sR, kd_sA, kd_sQ, kd_sL, kd_sD, ln_sI, ln_sR, ln_sA, ln_sQ, ln_sL, ln_sD, gI_sR, gI_sA, gI_sQ, gI_sL, gI_sD, gR_sI, gR_sA, gR_sQ, gR_sL, gR_sD, gA_sI, gA_sR, gA_sQ, gA_sL, gA_sD, gQ_sI, gQ_sR, gQ_sA, gQ_sL, gQ_sD, gL_sI, gL_sR, gL_sA, gL_sQ, gL_sD, kd_nO, kd_nA, *]) (by first | assumption | exact gI_sIs | exact gR_sRs | with_reducible rfl | (simp only [kd_sI, kd_sR, kd_sA, kd_sQ, kd_sL, kd_sD, ln_sI, ln_sR, ln_sA, ln_sQ, ln_sL, ln_sD, gI_sR, gI_sA, gI_sQ, gI_sL, gI_sD, gR_sI, gR_sA, gR_sQ, gR_sL, gR_sD, gA_sI, gA_sR, gA_sQ, gA_sL, gA_sD, gQ_sI, gQ_sR, gQ_sA, gQ_sL, gQ_sD, gL_sI, gL_sR, gL_sA, gL_sQ, gL_sD]; first | done | assumption | with_reducible rfl) | rfl) ?_
  refine r_iload_n (i := 1) dX1_free_12 rfl rfl ?_
  refine r_callV (As := [_]) (mc' := 3) (ms' := 16) dX1_free_13 k_X1_123 rfl (by first | assumption | (simp only [kd_sI, kd_sR, kd_sA, kd_sQ, kd_sL, kd_sD, ln_sI, ln_sR, ln_sA, ln_sQ, ln_sL, ln_sD, gI_sR, gI_sA, gI_sQ, gI_sL, gI_sD, gR_sI, gR_sA, gR_sQ, gR_sL, gR_sD, gA_sI, gA_sR, gA_sQ, gA_sL, gA_sD, gQ_sI, gQ_sR, gQ_sA, gQ_sL, gQ_sD, gL_sI, gL_sR, gL_sA, gL_sQ, gL_sD]; assumption) | simp [kd_sI, kd_sR, kd_sA, kd_sQ, kd_sL, kd_sD, ln_sI, ln_sR, ln_sA, ln_sQ, ln_sL, ln_sD, gI_sR, gI_sA, gI_sQ, gI_sL, gI_sD, gR_sI, gR_sA, gR_sQ, gR_sL, gR_sD, gA_sI, gA_sR, gA_sQ, gA_sL, gA_sD, gQ_sI, gQ_sR, gQ_sA, gQ_sL, gQ_sD, gL_sI, gL_sR, gL_sA, gL_sQ, gL_sD, kd_nO, kd_nA, *]) (T := TX2) (N := 8) rfl (by first | assumption | omega) (by first | assumption | omega) (by first | assumption | omega) (Nat.le_of_ble_eq_true rfl) ?_
  refine pl_free (by omega) P1A hI (fun c0 ec hc0 hc hs H2 O2 s2 hP2 => ?_) (fun hc q => x_out (by decide) (hX1 hc q H1 O1 s1c C1)) (fun c0 ec hc0 hc hs q => x_out (by decide) (hX2 ⟨c0, ec, hc0, hc, hs⟩ q H1 O1 s1c C1))
  obtain ⟨hZ2, P2', n1, n2, n3, s12, r12⟩ := ch_mid r1 hP hZ s1 hT hP' s2
  have kp2 := hZ2.1
  show AW mX1_free G d Qr Qx _ _ H2 16 _ _
  refine r_istore_n (i := 3) dX1_free_16 rfl (Nat.le_of_ble_eq_true rfl) (by simp only [lset]; rfl) ?_
  refine r_aload_n (i := 0) dX1_free_17 rfl rfl ?_
  refine r_aload_n (i := 2) dX1_free_18 rfl rfl ?_
  refine r_callV (As := [_]) (mc' := 0) (ms' := 0) dX1_free_19 k_X1_86 rfl (by first | assumption | (simp only [kd_sI, kd_sR, kd_sA, kd_sQ, kd_sL, kd_sD, ln_sI, ln_sR, ln_sA, ln_sQ, ln_sL, ln_sD, gI_sR, gI_sA, gI_sQ, gI_sL, gI_sD, gR_sI, gR_sA, gR_sQ, gR_sL, gR_sD, gA_sI, gA_sR, gA_sQ, gA_sL, gA_sD, gQ_sI, gQ_sR, gQ_sA, gQ_sL, gQ_sD, gL_sI, gL_sR, gL_sA, gL_sQ, gL_sD]; assumption) | simp [kd_sI, kd_sR, kd_sA, kd_sQ, kd_sL, kd_sD, ln_sI, ln_sR, ln_sA, ln_sQ, ln_sL, ln_sD, gI_sR, gI_sA, gI_sQ, gI_sL, gI_sD, gR_sI, gR_sA, gR_sQ, gR_sL, gR_sD, gA_sI, gA_sR, gA_sQ, gA_sL, gA_sD, gQ_sI, gQ_sR, gQ_sA, gQ_sL, gQ_sD, gL_sI, gL_sR, gL_sA, gL_sQ, gL_sD, kd_nO, kd_nA, *]) (T := TX1) (N := 7) rfl (by first | assumption | omega) (by first | assumption | omega) (by first | assumption | omega) (Nat.le_of_ble_eq_true rfl) ?_
  refine co_keep (by omega) hZ2 P2' n1 n2 n3 (fun H3 Y3 s3 hA hZ3 => ?_)
  obtain ⟨s13, C3⟩ := ch_end s12 hP2 r12 hZ2 s3 hA hZ3
  show AW mX1_free G d Qr Qx _ _ H3 22 _ _
  refine r_iload_n (i := 3) dX1_free_22 rfl rfl ?_
  refine r_ireturn dX1_free_23 rfl (by first | rfl | assumption | exact vp_nar_int _ | exact pk_nc _) ?_
  exact hQ c0 ec hc0 hc hs H3 O2 s13 C3
theorem co_scrap {c : Int32} (hd : 10 ≤ d) (hC : CoR G H O pn g L K B w r Ch) (hI : IG g) (hQ : ∀ c0, c = nI c0 → c0 < nat g 101 → isC g c = true → g (105 + 21 * c0) = nI 2 → ∀ H' O', Stq G (SC O) H O H' O' → CoR G H' O' pn (leavesG (upd g 2 (g 2 + g (107 + 21 * c0))) c0) (keepL L g) K B w r Ch → Qr (some (vI (g (107 + 21 * c0)))) H') (hX1 : isC g c = false → ∀ q H' O', Stq G (SC O) H O H' O' → CoR G H' O' pn g L K B w r Ch → Qx "java/lang/IndexOutOfBoundsException" q H') (hX2 : (∃ c0, c = nI c0 ∧ c0 < nat g 101 ∧ isC g c = true ∧ g (105 + 21 * c0) ≠ nI 2) → ∀ q H' O', Stq G (SC O) H O H' O' → CoR G H' O' pn g L K B w r Ch → Qx "java/lang/IllegalStateException" q H') : AMet G d 171 1606 yX1_scrap wX1_scrap H [vR (some pn), vI c] Qr Qx := by
  obtain ⟨t, p, Y, r1, hP, hZ⟩ := hC
  have kp := hZ.1
  have kpl := hP.pos.2.1
  refine AMet.of (M := mX1_scrap) (maxL := 4) (by first | rfl | decide +kernel) rfl (Nat.le_of_ble_eq_true rfl) ?_
  show AW mX1_scrap _ _ _ _ _ _ _ 0 [some (vR (some pn)), some (vI c), none, none] []
  refine r_aload_n (i := 0) dX1_scrap_0 rfl rfl ?_
  refine r_getR dX1_scrap_1 fR_X1_37 (by first | assumption | (simp only [kd_sI, kd_sR, kd_sA, kd_sQ, kd_sL, kd_sD, ln_sI, ln_sR, ln_sA, ln_sQ, ln_sL, ln_sD, gI_sR, gI_sA, gI_sQ, gI_sL, gI_sD, gR_sI, gR_sA, gR_sQ, gR_sL, gR_sD, gA_sI, gA_sR, gA_sQ, gA_sL, gA_sD, gQ_sI, gQ_sR, gQ_sA, gQ_sL, gQ_sD, gL_sI, gL_sR, gL_sA, gL_sQ, gL_sD]; assumption) | simp [kd_sI, kd_sR, kd_sA, kd_sQ, kd_sL, kd_sD, ln_sI, ln_sR, ln_sA, ln_sQ, ln_sL, ln_sD, gI_sR, gI_sA, gI_sQ, gI_sL, gI_sD, gR_sI, gR_sA, gR_sQ, gR_sL, gR_sD, gA_sI, gA_sR, gA_sQ, gA_sL, gA_sD, gQ_sI, gQ_sR, gQ_sA, gQ_sL, gQ_sD, gL_sI, gL_sR, gL_sA, gL_sQ, gL_sD, kd_nO, kd_nA, *]) (by first | assumption | exact gI_sIs | exact gR_sRs | with_reducible rfl | (simp only [kd_sI, kd_sR, kd_sA, kd_sQ, kd_sL, kd_sD, ln_sI, ln_sR, ln_sA, ln_sQ, ln_sL, ln_sD, gI_sR, gI_sA, gI_sQ, gI_sL, gI_sD, gR_sI, gR_sA, gR_sQ, gR_sL, gR_sD, gA_sI, gA_sR, gA_sQ, gA_sL, gA_sD, gQ_sI, gQ_sR, gQ_sA, gQ_sL, gQ_sD, gL_sI, gL_sR, gL_sA, gL_sQ, gL_sD]; first | done | assumption | with_reducible rfl) | rfl) ?_
  refine r_callV (As := []) (mc' := 168) (ms' := 1590) dX1_scrap_4 k_X1_82 rfl (by first | assumption | (simp only [kd_sI, kd_sR, kd_sA, kd_sQ, kd_sL, kd_sD, ln_sI, ln_sR, ln_sA, ln_sQ, ln_sL, ln_sD, gI_sR, gI_sA, gI_sQ, gI_sL, gI_sD, gR_sI, gR_sA, gR_sQ, gR_sL, gR_sD, gA_sI, gA_sR, gA_sQ, gA_sL, gA_sD, gQ_sI, gQ_sR, gQ_sA, gQ_sL, gQ_sD, gL_sI, gL_sR, gL_sA, gL_sQ, gL_sD]; assumption) | simp [kd_sI, kd_sR, kd_sA, kd_sQ, kd_sL, kd_sD, ln_sI, ln_sR, ln_sA, ln_sQ, ln_sL, ln_sD, gI_sR, gI_sA, gI_sQ, gI_sL, gI_sD, gR_sI, gR_sA, gR_sQ, gR_sL, gR_sD, gA_sI, gA_sR, gA_sQ, gA_sL, gA_sD, gQ_sI, gQ_sR, gQ_sA, gQ_sL, gQ_sD, gL_sI, gL_sR, gL_sA, gL_sQ, gL_sD, kd_nO, kd_nA, *]) (T := TX2) (N := 8) rfl (by first | assumption | omega) (by first | assumption | omega) (by first | assumption | omega) (Nat.le_of_ble_eq_true rfl) ?_
  refine c_planCopy (by omega) hP hI.2.2.2.2.2.2.2.1 (fun H1 O1 t' q s1 ht' hT hq0 hP' => ?_)
  have e1 := s1.1.at (a := pn) (by rw [kp]; decide) (fun h => h)
  have kp1 : kd H1 pn = 1 := by rw [at_kd e1]; exact kp
  have r11 : gR H1 1 pn = some p := by rw [at_gR e1]; exact r1
  have P1 := hP.ks s1 (fun _ _ h => h.elim)
  have kpl1 := P1.pos.2.1
  have C1 : CoR G H1 O1 pn g L K B w r Ch := ⟨t, p, Y, r11, P1, hZ.k0 s1⟩
  have s1c : Stq G (SC O) H O H1 O1 := s1.mono (fun _ _ h => h.elim)
  obtain ⟨A, P1A⟩ := P1
  show AW mX1_scrap G d Qr Qx _ _ H1 7 _ _
  refine r_astore_n (i := 2) dX1_scrap_7 rfl (Nat.le_of_ble_eq_true rfl) (by simp only [lset]; rfl) ?_
  refine r_aload_n (i := 0) dX1_scrap_8 rfl rfl ?_
  refine r_getR dX1_scrap_9 fR_X1_37 (by first | assumption | (simp only [kd_sI, kd_sR, kd_sA, kd_sQ, kd_sL, kd_sD, ln_sI, ln_sR, ln_sA, ln_sQ, ln_sL, ln_sD, gI_sR, gI_sA, gI_sQ, gI_sL, gI_sD, gR_sI, gR_sA, gR_sQ, gR_sL, gR_sD, gA_sI, gA_sR, gA_sQ, gA_sL, gA_sD, gQ_sI, gQ_sR, gQ_sA, gQ_sL, gQ_sD, gL_sI, gL_sR, gL_sA, gL_sQ, gL_sD]; assumption) | simp [kd_sI, kd_sR, kd_sA, kd_sQ, kd_sL, kd_sD, ln_sI, ln_sR, ln_sA, ln_sQ, ln_sL, ln_sD, gI_sR, gI_sA, gI_sQ, gI_sL, gI_sD, gR_sI, gR_sA, gR_sQ, gR_sL, gR_sD, gA_sI, gA_sR, gA_sQ, gA_sL, gA_sD, gQ_sI, gQ_sR, gQ_sA, gQ_sL, gQ_sD, gL_sI, gL_sR, gL_sA, gL_sQ, gL_sD, kd_nO, kd_nA, *]) (by first | assumption | exact gI_sIs | exact gR_sRs | with_reducible rfl | (simp only [kd_sI, kd_sR, kd_sA, kd_sQ, kd_sL, kd_sD, ln_sI, ln_sR, ln_sA, ln_sQ, ln_sL, ln_sD, gI_sR, gI_sA, gI_sQ, gI_sL, gI_sD, gR_sI, gR_sA, gR_sQ, gR_sL, gR_sD, gA_sI, gA_sR, gA_sQ, gA_sL, gA_sD, gQ_sI, gQ_sR, gQ_sA, gQ_sL, gQ_sD, gL_sI, gL_sR, gL_sA, gL_sQ, gL_sD]; first | done | assumption | with_reducible rfl) | rfl) ?_
  refine r_iload_n (i := 1) dX1_scrap_12 rfl rfl ?_
  refine r_callV (As := [_]) (mc' := 3) (ms' := 16) dX1_scrap_13 k_X1_130 rfl (by first | assumption | (simp only [kd_sI, kd_sR, kd_sA, kd_sQ, kd_sL, kd_sD, ln_sI, ln_sR, ln_sA, ln_sQ, ln_sL, ln_sD, gI_sR, gI_sA, gI_sQ, gI_sL, gI_sD, gR_sI, gR_sA, gR_sQ, gR_sL, gR_sD, gA_sI, gA_sR, gA_sQ, gA_sL, gA_sD, gQ_sI, gQ_sR, gQ_sA, gQ_sL, gQ_sD, gL_sI, gL_sR, gL_sA, gL_sQ, gL_sD]; assumption) | simp [kd_sI, kd_sR, kd_sA, kd_sQ, kd_sL, kd_sD, ln_sI, ln_sR, ln_sA, ln_sQ, ln_sL, ln_sD, gI_sR, gI_sA, gI_sQ, gI_sL, gI_sD, gR_sI, gR_sA, gR_sQ, gR_sL, gR_sD, gA_sI, gA_sR, gA_sQ, gA_sL, gA_sD, gQ_sI, gQ_sR, gQ_sA, gQ_sL, gQ_sD, gL_sI, gL_sR, gL_sA, gL_sQ, gL_sD, kd_nO, kd_nA, *]) (T := TX2) (N := 8) rfl (by first | assumption | omega) (by first | assumption | omega) (by first | assumption | omega) (Nat.le_of_ble_eq_true rfl) ?_
  refine pl_scrap (by omega) P1A hI (fun c0 ec hc0 hc hs H2 O2 s2 hP2 => ?_) (fun hc q => x_out (by decide) (hX1 hc q H1 O1 s1c C1)) (fun c0 ec hc0 hc hs q => x_out (by decide) (hX2 ⟨c0, ec, hc0, hc, hs⟩ q H1 O1 s1c C1))
  obtain ⟨hZ2, P2', n1, n2, n3, s12, r12⟩ := ch_mid r1 hP hZ s1 hT hP' s2
  have kp2 := hZ2.1
  show AW mX1_scrap G d Qr Qx _ _ H2 16 _ _
  refine r_istore_n (i := 3) dX1_scrap_16 rfl (Nat.le_of_ble_eq_true rfl) (by simp only [lset]; rfl) ?_
  refine r_aload_n (i := 0) dX1_scrap_17 rfl rfl ?_
  refine r_aload_n (i := 2) dX1_scrap_18 rfl rfl ?_
  refine r_callV (As := [_]) (mc' := 0) (ms' := 0) dX1_scrap_19 k_X1_86 rfl (by first | assumption | (simp only [kd_sI, kd_sR, kd_sA, kd_sQ, kd_sL, kd_sD, ln_sI, ln_sR, ln_sA, ln_sQ, ln_sL, ln_sD, gI_sR, gI_sA, gI_sQ, gI_sL, gI_sD, gR_sI, gR_sA, gR_sQ, gR_sL, gR_sD, gA_sI, gA_sR, gA_sQ, gA_sL, gA_sD, gQ_sI, gQ_sR, gQ_sA, gQ_sL, gQ_sD, gL_sI, gL_sR, gL_sA, gL_sQ, gL_sD]; assumption) | simp [kd_sI, kd_sR, kd_sA, kd_sQ, kd_sL, kd_sD, ln_sI, ln_sR, ln_sA, ln_sQ, ln_sL, ln_sD, gI_sR, gI_sA, gI_sQ, gI_sL, gI_sD, gR_sI, gR_sA, gR_sQ, gR_sL, gR_sD, gA_sI, gA_sR, gA_sQ, gA_sL, gA_sD, gQ_sI, gQ_sR, gQ_sA, gQ_sL, gQ_sD, gL_sI, gL_sR, gL_sA, gL_sQ, gL_sD, kd_nO, kd_nA, *]) (T := TX1) (N := 7) rfl (by first | assumption | omega) (by first | assumption | omega) (by first | assumption | omega) (Nat.le_of_ble_eq_true rfl) ?_
  refine co_keep (by omega) hZ2 P2' n1 n2 n3 (fun H3 Y3 s3 hA hZ3 => ?_)
  obtain ⟨s13, C3⟩ := ch_end s12 hP2 r12 hZ2 s3 hA hZ3
  show AW mX1_scrap G d Qr Qx _ _ H3 22 _ _
  refine r_iload_n (i := 3) dX1_scrap_22 rfl rfl ?_
  refine r_ireturn dX1_scrap_23 rfl (by first | rfl | assumption | exact vp_nar_int _ | exact pk_nc _) ?_
  exact hQ c0 ec hc0 hc hs H3 O2 s13 C3
theorem co_setSpare {v : Int32} (hd : 10 ≤ d) (hC : CoR G H O pn g L K B w r Ch) (hI : IG g) (hQ : inB v (nI 0) (nI 50) = true → ∀ H' O', Stq G (SC O) H O H' O' → CoR G H' O' pn (upd g 0 v) (keepL L g) K B w r Ch → Qr (some (vI (g 0))) H') (hX1 : inB v (nI 0) (nI 50) = false → ∀ q H' O', Stq G (SC O) H O H' O' → CoR G H' O' pn g L K B w r Ch → Qx "java/lang/IllegalArgumentException" q H') : AMet G d 169 1596 yX1_setSpare wX1_setSpare H [vR (some pn), vI v] Qr Qx := by
  have hC0 := hC
  obtain ⟨t, p, Y, r1, hP, hZ⟩ := hC
  have kp := hZ.1
  have kpl := hP.pos.2.1
  refine AMet.of (M := mX1_setSpare) (maxL := 3) (by first | rfl | decide +kernel) rfl (Nat.le_of_ble_eq_true rfl) ?_
  show AW mX1_setSpare _ _ _ _ _ _ _ 0 [some (vR (some pn)), some (vI v), none] []
  refine AW.st0 (fun z0 => ?_)
  refine r_iload_n (i := 1) dX1_setSpare_0 rfl rfl ?_
  refine r_i2l dX1_setSpare_1 ?_
  refine r_lconst dX1_setSpare_2 rfl ?_
  refine r_ldc2 dX1_setSpare_3 q1593 ?_
  refine r_callS (As := [_, _, _]) (mc' := 0) (ms' := 0) dX1_setSpare_6 k_X1_23 rfl (by first | assumption | omega) (by first | assumption | omega) (by first | assumption | omega) (Nat.le_of_ble_eq_true rfl) ?_
  refine s_inRange (a := nI 0) (b := nI 50) (by decide) (by decide) ?_
  show AW mX1_setSpare G d Qr Qx _ _ H 9 _ _
  refine r_callS (As := [_]) (mc' := 1) (ms' := 6) dX1_setSpare_9 k_X1_79 rfl (by first | assumption | omega) (by first | assumption | omega) (by first | assumption | omega) (Nat.le_of_ble_eq_true rfl) ?_
  refine s_checkArgument (by omega) (fun hv => ?_) (fun hv q => x_out (by decide) (hX1 hv q H O ⟨Ks.rf, fun _ _ => rfl, z0⟩ hC0))
  show AW mX1_setSpare G d Qr Qx _ _ H 12 _ _
  refine r_aload_n (i := 0) dX1_setSpare_12 rfl rfl ?_
  refine r_aload_n (i := 0) dX1_setSpare_13 rfl rfl ?_
  refine r_getR dX1_setSpare_14 fR_X1_37 (by first | assumption | (simp only [kd_sI, kd_sR, kd_sA, kd_sQ, kd_sL, kd_sD, ln_sI, ln_sR, ln_sA, ln_sQ, ln_sL, ln_sD, gI_sR, gI_sA, gI_sQ, gI_sL, gI_sD, gR_sI, gR_sA, gR_sQ, gR_sL, gR_sD, gA_sI, gA_sR, gA_sQ, gA_sL, gA_sD, gQ_sI, gQ_sR, gQ_sA, gQ_sL, gQ_sD, gL_sI, gL_sR, gL_sA, gL_sQ, gL_sD]; assumption) | simp [kd_sI, kd_sR, kd_sA, kd_sQ, kd_sL, kd_sD, ln_sI, ln_sR, ln_sA, ln_sQ, ln_sL, ln_sD, gI_sR, gI_sA, gI_sQ, gI_sL, gI_sD, gR_sI, gR_sA, gR_sQ, gR_sL, gR_sD, gA_sI, gA_sR, gA_sQ, gA_sL, gA_sD, gQ_sI, gQ_sR, gQ_sA, gQ_sL, gQ_sD, gL_sI, gL_sR, gL_sA, gL_sQ, gL_sD, kd_nO, kd_nA, *]) (by first | assumption | exact gI_sIs | exact gR_sRs | with_reducible rfl | (simp only [kd_sI, kd_sR, kd_sA, kd_sQ, kd_sL, kd_sD, ln_sI, ln_sR, ln_sA, ln_sQ, ln_sL, ln_sD, gI_sR, gI_sA, gI_sQ, gI_sL, gI_sD, gR_sI, gR_sA, gR_sQ, gR_sL, gR_sD, gA_sI, gA_sR, gA_sQ, gA_sL, gA_sD, gQ_sI, gQ_sR, gQ_sA, gQ_sL, gQ_sD, gL_sI, gL_sR, gL_sA, gL_sQ, gL_sD]; first | done | assumption | with_reducible rfl) | rfl) ?_
  refine r_callV (As := []) (mc' := 168) (ms' := 1590) dX1_setSpare_17 k_X1_82 rfl (by first | assumption | (simp only [kd_sI, kd_sR, kd_sA, kd_sQ, kd_sL, kd_sD, ln_sI, ln_sR, ln_sA, ln_sQ, ln_sL, ln_sD, gI_sR, gI_sA, gI_sQ, gI_sL, gI_sD, gR_sI, gR_sA, gR_sQ, gR_sL, gR_sD, gA_sI, gA_sR, gA_sQ, gA_sL, gA_sD, gQ_sI, gQ_sR, gQ_sA, gQ_sL, gQ_sD, gL_sI, gL_sR, gL_sA, gL_sQ, gL_sD]; assumption) | simp [kd_sI, kd_sR, kd_sA, kd_sQ, kd_sL, kd_sD, ln_sI, ln_sR, ln_sA, ln_sQ, ln_sL, ln_sD, gI_sR, gI_sA, gI_sQ, gI_sL, gI_sD, gR_sI, gR_sA, gR_sQ, gR_sL, gR_sD, gA_sI, gA_sR, gA_sQ, gA_sL, gA_sD, gQ_sI, gQ_sR, gQ_sA, gQ_sL, gQ_sD, gL_sI, gL_sR, gL_sA, gL_sQ, gL_sD, kd_nO, kd_nA, *]) (T := TX2) (N := 8) rfl (by first | assumption | omega) (by first | assumption | omega) (by first | assumption | omega) (Nat.le_of_ble_eq_true rfl) ?_
  refine c_planCopy (by omega) hP hI.2.2.2.2.2.2.2.1 (fun H1 O1 t' q s1 ht' hT hq0 hP' => ?_)
  have e1 := s1.1.at (a := pn) (by rw [kp]; decide) (fun h => h)
  have kp1 : kd H1 pn = 1 := by rw [at_kd e1]; exact kp
  have r11 : gR H1 1 pn = some p := by rw [at_gR e1]; exact r1
  have P1 := hP.ks s1 (fun _ _ h => h.elim)
  have hZ1 := hZ.k0 s1
  obtain ⟨k1, k2, k3⟩ := hZ.tok hP hT
  show AW mX1_setSpare G d Qr Qx _ _ H1 20 _ _
  refine r_callV (As := [_]) (mc' := 0) (ms' := 0) dX1_setSpare_20 k_X1_86 rfl (by first | assumption | (simp only [kd_sI, kd_sR, kd_sA, kd_sQ, kd_sL, kd_sD, ln_sI, ln_sR, ln_sA, ln_sQ, ln_sL, ln_sD, gI_sR, gI_sA, gI_sQ, gI_sL, gI_sD, gR_sI, gR_sA, gR_sQ, gR_sL, gR_sD, gA_sI, gA_sR, gA_sQ, gA_sL, gA_sD, gQ_sI, gQ_sR, gQ_sA, gQ_sL, gQ_sD, gL_sI, gL_sR, gL_sA, gL_sQ, gL_sD]; assumption) | simp [kd_sI, kd_sR, kd_sA, kd_sQ, kd_sL, kd_sD, ln_sI, ln_sR, ln_sA, ln_sQ, ln_sL, ln_sD, gI_sR, gI_sA, gI_sQ, gI_sL, gI_sD, gR_sI, gR_sA, gR_sQ, gR_sL, gR_sD, gA_sI, gA_sR, gA_sQ, gA_sL, gA_sD, gQ_sI, gQ_sR, gQ_sA, gQ_sL, gQ_sD, gL_sI, gL_sR, gL_sA, gL_sQ, gL_sD, kd_nO, kd_nA, *]) (T := TX1) (N := 7) rfl (by first | assumption | omega) (by first | assumption | omega) (by first | assumption | omega) (Nat.le_of_ble_eq_true rfl) ?_
  refine co_keep (by omega) hZ1 hP' (by omega) (fun i hi => by have := k2 i hi; omega) (fun hK => by have := k3 hK; omega) (fun H2 Y2 s2 hA hZ2 => ?_)
  have s1c : Stq G (SC O) H O H1 O1 := s1.mono (fun _ _ h => h.elim)
  have e2 := hA pn (by rw [kp1]; decide) (by rw [kp1]; decide) (by rw [kp1]; decide)
  have kp2 := hZ2.1
  have r12 : gR H2 1 pn = some p := by rw [at_gR e2]; exact r11
  have t1 := hP.pos.1
  have P2 := P1.ks s2 (fun a _ e => ⟨by omega, fun h => by omega, by omega⟩)
  have s2c : Stq G (SC O) H O H2 O1 := s1c.tr2 s2 (fun b hb e => by rw [s1.2.1 b hb] at e; exact Or.inl e)
  obtain ⟨A, P2A⟩ := P2
  obtain ⟨⟨p1, p8, p9, p10, p11, p12, p13, p14, p15⟩, pO⟩ := P2A.2.1
  show AW mX1_setSpare G d Qr Qx _ _ H2 23 _ _
  refine r_aload_n (i := 0) dX1_setSpare_23 rfl rfl ?_
  refine r_getR dX1_setSpare_24 fR_X1_37 (by first | assumption | (simp only [kd_sI, kd_sR, kd_sA, kd_sQ, kd_sL, kd_sD, ln_sI, ln_sR, ln_sA, ln_sQ, ln_sL, ln_sD, gI_sR, gI_sA, gI_sQ, gI_sL, gI_sD, gR_sI, gR_sA, gR_sQ, gR_sL, gR_sD, gA_sI, gA_sR, gA_sQ, gA_sL, gA_sD, gQ_sI, gQ_sR, gQ_sA, gQ_sL, gQ_sD, gL_sI, gL_sR, gL_sA, gL_sQ, gL_sD]; assumption) | simp [kd_sI, kd_sR, kd_sA, kd_sQ, kd_sL, kd_sD, ln_sI, ln_sR, ln_sA, ln_sQ, ln_sL, ln_sD, gI_sR, gI_sA, gI_sQ, gI_sL, gI_sD, gR_sI, gR_sA, gR_sQ, gR_sL, gR_sD, gA_sI, gA_sR, gA_sQ, gA_sL, gA_sD, gQ_sI, gQ_sR, gQ_sA, gQ_sL, gQ_sD, gL_sI, gL_sR, gL_sA, gL_sQ, gL_sD, kd_nO, kd_nA, *]) (by first | assumption | exact gI_sIs | exact gR_sRs | with_reducible rfl | (simp only [kd_sI, kd_sR, kd_sA, kd_sQ, kd_sL, kd_sD, ln_sI, ln_sR, ln_sA, ln_sQ, ln_sL, ln_sD, gI_sR, gI_sA, gI_sQ, gI_sL, gI_sD, gR_sI, gR_sA, gR_sQ, gR_sL, gR_sD, gA_sI, gA_sR, gA_sQ, gA_sL, gA_sD, gQ_sI, gQ_sR, gQ_sA, gQ_sL, gQ_sD, gL_sI, gL_sR, gL_sA, gL_sQ, gL_sD]; first | done | assumption | with_reducible rfl) | rfl) ?_
  refine r_getI dX1_setSpare_27 fR_X1_90 (by first | assumption | (simp only [kd_sI, kd_sR, kd_sA, kd_sQ, kd_sL, kd_sD, ln_sI, ln_sR, ln_sA, ln_sQ, ln_sL, ln_sD, gI_sR, gI_sA, gI_sQ, gI_sL, gI_sD, gR_sI, gR_sA, gR_sQ, gR_sL, gR_sD, gA_sI, gA_sR, gA_sQ, gA_sL, gA_sD, gQ_sI, gQ_sR, gQ_sA, gQ_sL, gQ_sD, gL_sI, gL_sR, gL_sA, gL_sQ, gL_sD]; assumption) | simp [kd_sI, kd_sR, kd_sA, kd_sQ, kd_sL, kd_sD, ln_sI, ln_sR, ln_sA, ln_sQ, ln_sL, ln_sD, gI_sR, gI_sA, gI_sQ, gI_sL, gI_sD, gR_sI, gR_sA, gR_sQ, gR_sL, gR_sD, gA_sI, gA_sR, gA_sQ, gA_sL, gA_sD, gQ_sI, gQ_sR, gQ_sA, gQ_sL, gQ_sD, gL_sI, gL_sR, gL_sA, gL_sQ, gL_sD, kd_nO, kd_nA, *]) (by first | assumption | exact gI_sIs | exact gR_sRs | with_reducible rfl | (simp only [kd_sI, kd_sR, kd_sA, kd_sQ, kd_sL, kd_sD, ln_sI, ln_sR, ln_sA, ln_sQ, ln_sL, ln_sD, gI_sR, gI_sA, gI_sQ, gI_sL, gI_sD, gR_sI, gR_sA, gR_sQ, gR_sL, gR_sD, gA_sI, gA_sR, gA_sQ, gA_sL, gA_sD, gQ_sI, gQ_sR, gQ_sA, gQ_sL, gQ_sD, gL_sI, gL_sR, gL_sA, gL_sQ, gL_sD]; first | done | assumption | with_reducible rfl) | rfl) ?_
  refine r_istore_n (i := 2) dX1_setSpare_30 rfl (Nat.le_of_ble_eq_true rfl) (by simp only [lset]; rfl) ?_
  refine r_aload_n (i := 0) dX1_setSpare_31 rfl rfl ?_
  refine r_getR dX1_setSpare_32 fR_X1_37 (by first | assumption | (simp only [kd_sI, kd_sR, kd_sA, kd_sQ, kd_sL, kd_sD, ln_sI, ln_sR, ln_sA, ln_sQ, ln_sL, ln_sD, gI_sR, gI_sA, gI_sQ, gI_sL, gI_sD, gR_sI, gR_sA, gR_sQ, gR_sL, gR_sD, gA_sI, gA_sR, gA_sQ, gA_sL, gA_sD, gQ_sI, gQ_sR, gQ_sA, gQ_sL, gQ_sD, gL_sI, gL_sR, gL_sA, gL_sQ, gL_sD]; assumption) | simp [kd_sI, kd_sR, kd_sA, kd_sQ, kd_sL, kd_sD, ln_sI, ln_sR, ln_sA, ln_sQ, ln_sL, ln_sD, gI_sR, gI_sA, gI_sQ, gI_sL, gI_sD, gR_sI, gR_sA, gR_sQ, gR_sL, gR_sD, gA_sI, gA_sR, gA_sQ, gA_sL, gA_sD, gQ_sI, gQ_sR, gQ_sA, gQ_sL, gQ_sD, gL_sI, gL_sR, gL_sA, gL_sQ, gL_sD, kd_nO, kd_nA, *]) (by first | assumption | exact gI_sIs | exact gR_sRs | with_reducible rfl | (simp only [kd_sI, kd_sR, kd_sA, kd_sQ, kd_sL, kd_sD, ln_sI, ln_sR, ln_sA, ln_sQ, ln_sL, ln_sD, gI_sR, gI_sA, gI_sQ, gI_sL, gI_sD, gR_sI, gR_sA, gR_sQ, gR_sL, gR_sD, gA_sI, gA_sR, gA_sQ, gA_sL, gA_sD, gQ_sI, gQ_sR, gQ_sA, gQ_sL, gQ_sD, gL_sI, gL_sR, gL_sA, gL_sQ, gL_sD]; first | done | assumption | with_reducible rfl) | rfl) ?_
  refine r_iload_n (i := 1) dX1_setSpare_35 rfl rfl ?_
  refine r_putI dX1_setSpare_36 fG_X1_90 (fun _ => by first | rfl | contradiction) (by first | assumption | (simp only [kd_sI, kd_sR, kd_sA, kd_sQ, kd_sL, kd_sD, ln_sI, ln_sR, ln_sA, ln_sQ, ln_sL, ln_sD, gI_sR, gI_sA, gI_sQ, gI_sL, gI_sD, gR_sI, gR_sA, gR_sQ, gR_sL, gR_sD, gA_sI, gA_sR, gA_sQ, gA_sL, gA_sD, gQ_sI, gQ_sR, gQ_sA, gQ_sL, gQ_sD, gL_sI, gL_sR, gL_sA, gL_sQ, gL_sD]; assumption) | simp [kd_sI, kd_sR, kd_sA, kd_sQ, kd_sL, kd_sD, ln_sI, ln_sR, ln_sA, ln_sQ, ln_sL, ln_sD, gI_sR, gI_sA, gI_sQ, gI_sL, gI_sD, gR_sI, gR_sA, gR_sQ, gR_sL, gR_sD, gA_sI, gA_sR, gA_sQ, gA_sL, gA_sD, gQ_sI, gQ_sR, gQ_sA, gQ_sL, gQ_sD, gL_sI, gL_sR, gL_sA, gL_sQ, gL_sD, kd_nO, kd_nA, *]) (by first | rfl | assumption) (by first | rfl | assumption) ?_
  refine AW.name (fun H3 hH3 => ?_)
  refine AW.st0 (fun z3 => ?_)
  have K3 : Ks (fun a => a = p) H2 H3 := by rw [hH3]; exact (Ks.rf (S := fun a => a = p)).sI (fun _ => rfl)
  obtain ⟨s3, P3⟩ := P2A.small (k := 0) (v := v) hI (by decide) K3 z3 (by rw [hH3]; exact gR_sI) (by rw [hH3]; rw [gI_sIs, upd_s]) (by rw [hH3]; rw [gI_sIn (by decide), upd_n (by decide)]; exact p14) (by rw [hH3]; rw [gI_sIn (by decide), upd_n (by decide)]; exact p15)
  have e3 := K3.at (a := pn) (by rw [kp2]; decide) (fun e => by rw [e, p1] at kp2; omega)
  refine r_iload_n (i := 2) dX1_setSpare_39 rfl rfl ?_
  refine r_ireturn dX1_setSpare_40 rfl (by first | rfl | assumption | exact vp_nar_int _ | exact pk_nc _) ?_
  exact hQ hv H3 O1 (s2c.tr2 s3 (fun b hb e => by rw [s2c.2.1 b hb] at e; exact Or.inr (by omega))) ⟨t, p, Y2, (at_gR e3 1).trans r12, ⟨A, P3⟩, hZ2.ks s3 (fun a _ e => ⟨by omega, by omega, fun h => by omega, fun _ => by omega⟩)⟩
theorem co_setTail {v : Int32} (hd : 10 ≤ d) (hC : CoR G H O pn g L K B w r Ch) (hI : IG g) (hQ : inB v (nI 0) (nI 20) = true → ∀ H' O', Stq G (SC O) H O H' O' → CoR G H' O' pn (upd g 1 v) (keepL L g) K B w r Ch → Qr (some (vI (g 1))) H') (hX1 : inB v (nI 0) (nI 20) = false → ∀ q H' O', Stq G (SC O) H O H' O' → CoR G H' O' pn g L K B w r Ch → Qx "java/lang/IllegalArgumentException" q H') : AMet G d 169 1596 yX1_setTail wX1_setTail H [vR (some pn), vI v] Qr Qx := by
  have hC0 := hC
  obtain ⟨t, p, Y, r1, hP, hZ⟩ := hC
  have kp := hZ.1
  have kpl := hP.pos.2.1
  refine AMet.of (M := mX1_setTail) (maxL := 3) (by first | rfl | decide +kernel) rfl (Nat.le_of_ble_eq_true rfl) ?_
  show AW mX1_setTail _ _ _ _ _ _ _ 0 [some (vR (some pn)), some (vI v), none] []
  refine AW.st0 (fun z0 => ?_)
  refine r_iload_n (i := 1) dX1_setTail_0 rfl rfl ?_
  refine r_i2l dX1_setTail_1 ?_
  refine r_lconst dX1_setTail_2 rfl ?_
  refine r_ldc2 dX1_setTail_3 q1668 ?_
  refine r_callS (As := [_, _, _]) (mc' := 0) (ms' := 0) dX1_setTail_6 k_X1_23 rfl (by first | assumption | omega) (by first | assumption | omega) (by first | assumption | omega) (Nat.le_of_ble_eq_true rfl) ?_
  refine s_inRange (a := nI 0) (b := nI 20) (by decide) (by decide) ?_
  show AW mX1_setTail G d Qr Qx _ _ H 9 _ _
  refine r_callS (As := [_]) (mc' := 1) (ms' := 6) dX1_setTail_9 k_X1_79 rfl (by first | assumption | omega) (by first | assumption | omega) (by first | assumption | omega) (Nat.le_of_ble_eq_true rfl) ?_
  refine s_checkArgument (by omega) (fun hv => ?_) (fun hv q => x_out (by decide) (hX1 hv q H O ⟨Ks.rf, fun _ _ => rfl, z0⟩ hC0))
  show AW mX1_setTail G d Qr Qx _ _ H 12 _ _
  refine r_aload_n (i := 0) dX1_setTail_12 rfl rfl ?_
  refine r_aload_n (i := 0) dX1_setTail_13 rfl rfl ?_
  refine r_getR dX1_setTail_14 fR_X1_37 (by first | assumption | (simp only [kd_sI, kd_sR, kd_sA, kd_sQ, kd_sL, kd_sD, ln_sI, ln_sR, ln_sA, ln_sQ, ln_sL, ln_sD, gI_sR, gI_sA, gI_sQ, gI_sL, gI_sD, gR_sI, gR_sA, gR_sQ, gR_sL, gR_sD, gA_sI, gA_sR, gA_sQ, gA_sL, gA_sD, gQ_sI, gQ_sR, gQ_sA, gQ_sL, gQ_sD, gL_sI, gL_sR, gL_sA, gL_sQ, gL_sD]; assumption) | simp [kd_sI, kd_sR, kd_sA, kd_sQ, kd_sL, kd_sD, ln_sI, ln_sR, ln_sA, ln_sQ, ln_sL, ln_sD, gI_sR, gI_sA, gI_sQ, gI_sL, gI_sD, gR_sI, gR_sA, gR_sQ, gR_sL, gR_sD, gA_sI, gA_sR, gA_sQ, gA_sL, gA_sD, gQ_sI, gQ_sR, gQ_sA, gQ_sL, gQ_sD, gL_sI, gL_sR, gL_sA, gL_sQ, gL_sD, kd_nO, kd_nA, *]) (by first | assumption | exact gI_sIs | exact gR_sRs | with_reducible rfl | (simp only [kd_sI, kd_sR, kd_sA, kd_sQ, kd_sL, kd_sD, ln_sI, ln_sR, ln_sA, ln_sQ, ln_sL, ln_sD, gI_sR, gI_sA, gI_sQ, gI_sL, gI_sD, gR_sI, gR_sA, gR_sQ, gR_sL, gR_sD, gA_sI, gA_sR, gA_sQ, gA_sL, gA_sD, gQ_sI, gQ_sR, gQ_sA, gQ_sL, gQ_sD, gL_sI, gL_sR, gL_sA, gL_sQ, gL_sD]; first | done | assumption | with_reducible rfl) | rfl) ?_
  refine r_callV (As := []) (mc' := 168) (ms' := 1590) dX1_setTail_17 k_X1_82 rfl (by first | assumption | (simp only [kd_sI, kd_sR, kd_sA, kd_sQ, kd_sL, kd_sD, ln_sI, ln_sR, ln_sA, ln_sQ, ln_sL, ln_sD, gI_sR, gI_sA, gI_sQ, gI_sL, gI_sD, gR_sI, gR_sA, gR_sQ, gR_sL, gR_sD, gA_sI, gA_sR, gA_sQ, gA_sL, gA_sD, gQ_sI, gQ_sR, gQ_sA, gQ_sL, gQ_sD, gL_sI, gL_sR, gL_sA, gL_sQ, gL_sD]; assumption) | simp [kd_sI, kd_sR, kd_sA, kd_sQ, kd_sL, kd_sD, ln_sI, ln_sR, ln_sA, ln_sQ, ln_sL, ln_sD, gI_sR, gI_sA, gI_sQ, gI_sL, gI_sD, gR_sI, gR_sA, gR_sQ, gR_sL, gR_sD, gA_sI, gA_sR, gA_sQ, gA_sL, gA_sD, gQ_sI, gQ_sR, gQ_sA, gQ_sL, gQ_sD, gL_sI, gL_sR, gL_sA, gL_sQ, gL_sD, kd_nO, kd_nA, *]) (T := TX2) (N := 8) rfl (by first | assumption | omega) (by first | assumption | omega) (by first | assumption | omega) (Nat.le_of_ble_eq_true rfl) ?_
  refine c_planCopy (by omega) hP hI.2.2.2.2.2.2.2.1 (fun H1 O1 t' q s1 ht' hT hq0 hP' => ?_)
  have e1 := s1.1.at (a := pn) (by rw [kp]; decide) (fun h => h)
  have kp1 : kd H1 pn = 1 := by rw [at_kd e1]; exact kp
  have r11 : gR H1 1 pn = some p := by rw [at_gR e1]; exact r1
  have P1 := hP.ks s1 (fun _ _ h => h.elim)
  have hZ1 := hZ.k0 s1
  obtain ⟨k1, k2, k3⟩ := hZ.tok hP hT
  show AW mX1_setTail G d Qr Qx _ _ H1 20 _ _
  refine r_callV (As := [_]) (mc' := 0) (ms' := 0) dX1_setTail_20 k_X1_86 rfl (by first | assumption | (simp only [kd_sI, kd_sR, kd_sA, kd_sQ, kd_sL, kd_sD, ln_sI, ln_sR, ln_sA, ln_sQ, ln_sL, ln_sD, gI_sR, gI_sA, gI_sQ, gI_sL, gI_sD, gR_sI, gR_sA, gR_sQ, gR_sL, gR_sD, gA_sI, gA_sR, gA_sQ, gA_sL, gA_sD, gQ_sI, gQ_sR, gQ_sA, gQ_sL, gQ_sD, gL_sI, gL_sR, gL_sA, gL_sQ, gL_sD]; assumption) | simp [kd_sI, kd_sR, kd_sA, kd_sQ, kd_sL, kd_sD, ln_sI, ln_sR, ln_sA, ln_sQ, ln_sL, ln_sD, gI_sR, gI_sA, gI_sQ, gI_sL, gI_sD, gR_sI, gR_sA, gR_sQ, gR_sL, gR_sD, gA_sI, gA_sR, gA_sQ, gA_sL, gA_sD, gQ_sI, gQ_sR, gQ_sA, gQ_sL, gQ_sD, gL_sI, gL_sR, gL_sA, gL_sQ, gL_sD, kd_nO, kd_nA, *]) (T := TX1) (N := 7) rfl (by first | assumption | omega) (by first | assumption | omega) (by first | assumption | omega) (Nat.le_of_ble_eq_true rfl) ?_
  refine co_keep (by omega) hZ1 hP' (by omega) (fun i hi => by have := k2 i hi; omega) (fun hK => by have := k3 hK; omega) (fun H2 Y2 s2 hA hZ2 => ?_)
  have s1c : Stq G (SC O) H O H1 O1 := s1.mono (fun _ _ h => h.elim)
  have e2 := hA pn (by rw [kp1]; decide) (by rw [kp1]; decide) (by rw [kp1]; decide)
  have kp2 := hZ2.1
  have r12 : gR H2 1 pn = some p := by rw [at_gR e2]; exact r11
  have t1 := hP.pos.1
  have P2 := P1.ks s2 (fun a _ e => ⟨by omega, fun h => by omega, by omega⟩)
  have s2c : Stq G (SC O) H O H2 O1 := s1c.tr2 s2 (fun b hb e => by rw [s1.2.1 b hb] at e; exact Or.inl e)
  obtain ⟨A, P2A⟩ := P2
  obtain ⟨⟨p1, p8, p9, p10, p11, p12, p13, p14, p15⟩, pO⟩ := P2A.2.1
  show AW mX1_setTail G d Qr Qx _ _ H2 23 _ _
  refine r_aload_n (i := 0) dX1_setTail_23 rfl rfl ?_
  refine r_getR dX1_setTail_24 fR_X1_37 (by first | assumption | (simp only [kd_sI, kd_sR, kd_sA, kd_sQ, kd_sL, kd_sD, ln_sI, ln_sR, ln_sA, ln_sQ, ln_sL, ln_sD, gI_sR, gI_sA, gI_sQ, gI_sL, gI_sD, gR_sI, gR_sA, gR_sQ, gR_sL, gR_sD, gA_sI, gA_sR, gA_sQ, gA_sL, gA_sD, gQ_sI, gQ_sR, gQ_sA, gQ_sL, gQ_sD, gL_sI, gL_sR, gL_sA, gL_sQ, gL_sD]; assumption) | simp [kd_sI, kd_sR, kd_sA, kd_sQ, kd_sL, kd_sD, ln_sI, ln_sR, ln_sA, ln_sQ, ln_sL, ln_sD, gI_sR, gI_sA, gI_sQ, gI_sL, gI_sD, gR_sI, gR_sA, gR_sQ, gR_sL, gR_sD, gA_sI, gA_sR, gA_sQ, gA_sL, gA_sD, gQ_sI, gQ_sR, gQ_sA, gQ_sL, gQ_sD, gL_sI, gL_sR, gL_sA, gL_sQ, gL_sD, kd_nO, kd_nA, *]) (by first | assumption | exact gI_sIs | exact gR_sRs | with_reducible rfl | (simp only [kd_sI, kd_sR, kd_sA, kd_sQ, kd_sL, kd_sD, ln_sI, ln_sR, ln_sA, ln_sQ, ln_sL, ln_sD, gI_sR, gI_sA, gI_sQ, gI_sL, gI_sD, gR_sI, gR_sA, gR_sQ, gR_sL, gR_sD, gA_sI, gA_sR, gA_sQ, gA_sL, gA_sD, gQ_sI, gQ_sR, gQ_sA, gQ_sL, gQ_sD, gL_sI, gL_sR, gL_sA, gL_sQ, gL_sD]; first | done | assumption | with_reducible rfl) | rfl) ?_
  refine r_getI dX1_setTail_27 fR_X1_96 (by first | assumption | (simp only [kd_sI, kd_sR, kd_sA, kd_sQ, kd_sL, kd_sD, ln_sI, ln_sR, ln_sA, ln_sQ, ln_sL, ln_sD, gI_sR, gI_sA, gI_sQ, gI_sL, gI_sD, gR_sI, gR_sA, gR_sQ, gR_sL, gR_sD, gA_sI, gA_sR, gA_sQ, gA_sL, gA_sD, gQ_sI, gQ_sR, gQ_sA, gQ_sL, gQ_sD, gL_sI, gL_sR, gL_sA, gL_sQ, gL_sD]; assumption) | simp [kd_sI, kd_sR, kd_sA, kd_sQ, kd_sL, kd_sD, ln_sI, ln_sR, ln_sA, ln_sQ, ln_sL, ln_sD, gI_sR, gI_sA, gI_sQ, gI_sL, gI_sD, gR_sI, gR_sA, gR_sQ, gR_sL, gR_sD, gA_sI, gA_sR, gA_sQ, gA_sL, gA_sD, gQ_sI, gQ_sR, gQ_sA, gQ_sL, gQ_sD, gL_sI, gL_sR, gL_sA, gL_sQ, gL_sD, kd_nO, kd_nA, *]) (by first | assumption | exact gI_sIs | exact gR_sRs | with_reducible rfl | (simp only [kd_sI, kd_sR, kd_sA, kd_sQ, kd_sL, kd_sD, ln_sI, ln_sR, ln_sA, ln_sQ, ln_sL, ln_sD, gI_sR, gI_sA, gI_sQ, gI_sL, gI_sD, gR_sI, gR_sA, gR_sQ, gR_sL, gR_sD, gA_sI, gA_sR, gA_sQ, gA_sL, gA_sD, gQ_sI, gQ_sR, gQ_sA, gQ_sL, gQ_sD, gL_sI, gL_sR, gL_sA, gL_sQ, gL_sD]; first | done | assumption | with_reducible rfl) | rfl) ?_
  refine r_istore_n (i := 2) dX1_setTail_30 rfl (Nat.le_of_ble_eq_true rfl) (by simp only [lset]; rfl) ?_
  refine r_aload_n (i := 0) dX1_setTail_31 rfl rfl ?_
  refine r_getR dX1_setTail_32 fR_X1_37 (by first | assumption | (simp only [kd_sI, kd_sR, kd_sA, kd_sQ, kd_sL, kd_sD, ln_sI, ln_sR, ln_sA, ln_sQ, ln_sL, ln_sD, gI_sR, gI_sA, gI_sQ, gI_sL, gI_sD, gR_sI, gR_sA, gR_sQ, gR_sL, gR_sD, gA_sI, gA_sR, gA_sQ, gA_sL, gA_sD, gQ_sI, gQ_sR, gQ_sA, gQ_sL, gQ_sD, gL_sI, gL_sR, gL_sA, gL_sQ, gL_sD]; assumption) | simp [kd_sI, kd_sR, kd_sA, kd_sQ, kd_sL, kd_sD, ln_sI, ln_sR, ln_sA, ln_sQ, ln_sL, ln_sD, gI_sR, gI_sA, gI_sQ, gI_sL, gI_sD, gR_sI, gR_sA, gR_sQ, gR_sL, gR_sD, gA_sI, gA_sR, gA_sQ, gA_sL, gA_sD, gQ_sI, gQ_sR, gQ_sA, gQ_sL, gQ_sD, gL_sI, gL_sR, gL_sA, gL_sQ, gL_sD, kd_nO, kd_nA, *]) (by first | assumption | exact gI_sIs | exact gR_sRs | with_reducible rfl | (simp only [kd_sI, kd_sR, kd_sA, kd_sQ, kd_sL, kd_sD, ln_sI, ln_sR, ln_sA, ln_sQ, ln_sL, ln_sD, gI_sR, gI_sA, gI_sQ, gI_sL, gI_sD, gR_sI, gR_sA, gR_sQ, gR_sL, gR_sD, gA_sI, gA_sR, gA_sQ, gA_sL, gA_sD, gQ_sI, gQ_sR, gQ_sA, gQ_sL, gQ_sD, gL_sI, gL_sR, gL_sA, gL_sQ, gL_sD]; first | done | assumption | with_reducible rfl) | rfl) ?_
  refine r_iload_n (i := 1) dX1_setTail_35 rfl rfl ?_
  refine r_putI dX1_setTail_36 fG_X1_96 (fun _ => by first | rfl | contradiction) (by first | assumption | (simp only [kd_sI, kd_sR, kd_sA, kd_sQ, kd_sL, kd_sD, ln_sI, ln_sR, ln_sA, ln_sQ, ln_sL, ln_sD, gI_sR, gI_sA, gI_sQ, gI_sL, gI_sD, gR_sI, gR_sA, gR_sQ, gR_sL, gR_sD, gA_sI, gA_sR, gA_sQ, gA_sL, gA_sD, gQ_sI, gQ_sR, gQ_sA, gQ_sL, gQ_sD, gL_sI, gL_sR, gL_sA, gL_sQ, gL_sD]; assumption) | simp [kd_sI, kd_sR, kd_sA, kd_sQ, kd_sL, kd_sD, ln_sI, ln_sR, ln_sA, ln_sQ, ln_sL, ln_sD, gI_sR, gI_sA, gI_sQ, gI_sL, gI_sD, gR_sI, gR_sA, gR_sQ, gR_sL, gR_sD, gA_sI, gA_sR, gA_sQ, gA_sL, gA_sD, gQ_sI, gQ_sR, gQ_sA, gQ_sL, gQ_sD, gL_sI, gL_sR, gL_sA, gL_sQ, gL_sD, kd_nO, kd_nA, *]) (by first | rfl | assumption) (by first | rfl | assumption) ?_
  refine AW.name (fun H3 hH3 => ?_)
  refine AW.st0 (fun z3 => ?_)
  have K3 : Ks (fun a => a = p) H2 H3 := by rw [hH3]; exact (Ks.rf (S := fun a => a = p)).sI (fun _ => rfl)
  obtain ⟨s3, P3⟩ := P2A.small (k := 1) (v := v) hI (by decide) K3 z3 (by rw [hH3]; exact gR_sI) (by rw [hH3]; rw [gI_sIn (by decide), upd_n (by decide)]; exact p13) (by rw [hH3]; rw [gI_sIs, upd_s]) (by rw [hH3]; rw [gI_sIn (by decide), upd_n (by decide)]; exact p15)
  have e3 := K3.at (a := pn) (by rw [kp2]; decide) (fun e => by rw [e, p1] at kp2; omega)
  refine r_iload_n (i := 2) dX1_setTail_39 rfl rfl ?_
  refine r_ireturn dX1_setTail_40 rfl (by first | rfl | assumption | exact vp_nar_int _ | exact pk_nc _) ?_
  exact hQ hv H3 O1 (s2c.tr2 s3 (fun b hb e => by rw [s2c.2.1 b hb] at e; exact Or.inr (by omega))) ⟨t, p, Y2, (at_gR e3 1).trans r12, ⟨A, P3⟩, hZ2.ks s3 (fun a _ e => ⟨by omega, by omega, fun h => by omega, fun _ => by omega⟩)⟩
end Change
