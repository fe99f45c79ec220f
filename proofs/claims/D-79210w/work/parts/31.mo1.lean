set_option maxRecDepth 100000
section Mo1
variable {G : Gl} {d m : Nat} {ma : Nat → Nat} {Qr : Option AV → AH → Prop} {Qx : String → Nat → AH → Prop} {H : AH}
theorem s_thrown (hM : MO H m ma) (hQ : Qr (some (vI (gI H 77 m))) H) : AMet G d 0 0 yX3_thrown wX3_thrown H [vR (some m)] Qr Qx := by
  have e0 := hM.1
  refine AMet.of (M := mX3_thrown) (maxL := 1) rfl rfl (Nat.le_of_ble_eq_true rfl) ?_
  show AW mX3_thrown _ _ _ _ _ _ _ 0 [some (vR (some m))] []
  refine r_aload_n (i := 0) dX3_thrown_0 rfl rfl ?_
  refine r_getI dX3_thrown_1 fR_X3_66 (by first | assumption | (simp only [kd_sI, kd_sR, kd_sA, kd_sQ, kd_sL, kd_sD, ln_sI, ln_sR, ln_sA, ln_sQ, ln_sL, ln_sD, gI_sR, gI_sA, gI_sQ, gI_sL, gI_sD, gR_sI, gR_sA, gR_sQ, gR_sL, gR_sD, gA_sI, gA_sR, gA_sQ, gA_sL, gA_sD, gQ_sI, gQ_sR, gQ_sA, gQ_sL, gQ_sD, gL_sI, gL_sR, gL_sA, gL_sQ, gL_sD]; assumption) | simp [kd_sI, kd_sR, kd_sA, kd_sQ, kd_sL, kd_sD, ln_sI, ln_sR, ln_sA, ln_sQ, ln_sL, ln_sD, gI_sR, gI_sA, gI_sQ, gI_sL, gI_sD, gR_sI, gR_sA, gR_sQ, gR_sL, gR_sD, gA_sI, gA_sR, gA_sQ, gA_sL, gA_sD, gQ_sI, gQ_sR, gQ_sA, gQ_sL, gQ_sD, gL_sI, gL_sR, gL_sA, gL_sQ, gL_sD, kd_nO, kd_nA, *]) (by first | assumption | with_reducible rfl | (simp only [kd_sI, kd_sR, kd_sA, kd_sQ, kd_sL, kd_sD, ln_sI, ln_sR, ln_sA, ln_sQ, ln_sL, ln_sD, gI_sR, gI_sA, gI_sQ, gI_sL, gI_sD, gR_sI, gR_sA, gR_sQ, gR_sL, gR_sD, gA_sI, gA_sR, gA_sQ, gA_sL, gA_sD, gQ_sI, gQ_sR, gQ_sA, gQ_sL, gQ_sD, gL_sI, gL_sR, gL_sA, gL_sQ, gL_sD]; first | done | assumption | with_reducible rfl) | rfl) ?_
  refine r_ireturn dX3_thrown_4 rfl (by first | rfl | assumption | exact vp_nar_int _) ?_
  exact hQ
theorem s_fails {c : Int32} (hM : MO H m ma) (hQ : Qr (some (vI (nI 0))) (sI H 77 m c)) : AMet G d 0 0 yX3_fails wX3_fails H [vR (some m), vI c] Qr Qx := by
  have e0 := hM.1
  refine AMet.of (M := mX3_fails) (maxL := 2) rfl rfl (Nat.le_of_ble_eq_true rfl) ?_
  show AW mX3_fails _ _ _ _ _ _ _ 0 [some (vR (some m)), some (vI c)] []
  refine r_aload_n (i := 0) dX3_fails_0 rfl rfl ?_
  refine r_iload_n (i := 1) dX3_fails_1 rfl rfl ?_
  refine r_putI dX3_fails_2 fG_X3_66 (fun _ => by first | rfl | contradiction) (by first | assumption | (simp only [kd_sI, kd_sR, kd_sA, kd_sQ, kd_sL, kd_sD, ln_sI, ln_sR, ln_sA, ln_sQ, ln_sL, ln_sD, gI_sR, gI_sA, gI_sQ, gI_sL, gI_sD, gR_sI, gR_sA, gR_sQ, gR_sL, gR_sD, gA_sI, gA_sR, gA_sQ, gA_sL, gA_sD, gQ_sI, gQ_sR, gQ_sA, gQ_sL, gQ_sD, gL_sI, gL_sR, gL_sA, gL_sQ, gL_sD]; assumption) | simp [kd_sI, kd_sR, kd_sA, kd_sQ, kd_sL, kd_sD, ln_sI, ln_sR, ln_sA, ln_sQ, ln_sL, ln_sD, gI_sR, gI_sA, gI_sQ, gI_sL, gI_sD, gR_sI, gR_sA, gR_sQ, gR_sL, gR_sD, gA_sI, gA_sR, gA_sQ, gA_sL, gA_sD, gQ_sI, gQ_sR, gQ_sA, gQ_sL, gQ_sD, gL_sI, gL_sR, gL_sA, gL_sQ, gL_sD, kd_nO, kd_nA, *]) (by first | rfl | assumption) (by first | rfl | assumption) ?_
  refine r_iconst (v := nI 0) dX3_fails_5 (by decide) ?_
  refine r_ireturn dX3_fails_6 rfl (by first | rfl | assumption | exact vp_nar_int _) ?_
  exact hQ
def bI (b : Bool) : Int32 := if b then nI 1 else nI 0
theorem bI_t : bI true = nI 1 := rfl
theorem bI_f : bI false = nI 0 := rfl
theorem s_in {v a b : Int32} (hQ : Qr (some (vI (bI (decide (a ≤ v ∧ v ≤ b))))) H) : AMet G d 0 0 yX3_in wX3_in H [vI v, vI a, vI b] Qr Qx := by
  refine AMet.of (M := mX3_in) (maxL := 3) rfl rfl (Nat.le_of_ble_eq_true rfl) ?_
  show AW mX3_in _ _ _ _ _ _ _ 0 [some (vI v), some (vI a), some (vI b)] []
  refine r_iload_n (i := 0) dX3_in_0 rfl rfl ?_
  refine r_iload_n (i := 1) dX3_in_1 rfl rfl ?_
  refine r_icmp_lt (tgt := 14) dX3_in_2 (by decide) (fun h2 => ?_) (fun h2 => ?_)
  · have e : decide (a ≤ v ∧ v ≤ b) = false := by simp; intro q; exact absurd q (by simpa using h2)
    rw [e] at hQ
    refine r_iconst (v := nI 0) dX3_in_14 (by decide) ?_
    refine r_ireturn dX3_in_15 rfl (by first | rfl | assumption | exact vp_nar_int _) ?_
    exact hQ
  · refine r_iload_n (i := 0) dX3_in_5 rfl rfl ?_
    refine r_iload_n (i := 2) dX3_in_6 rfl rfl ?_
    refine r_icmp_gt (tgt := 14) dX3_in_7 (by decide) (fun h7 => ?_) (fun h7 => ?_)
    · have e : decide (a ≤ v ∧ v ≤ b) = false := by simp; intro _; simpa using h7
      rw [e] at hQ
      refine r_iconst (v := nI 0) dX3_in_14 (by decide) ?_
      refine r_ireturn dX3_in_15 rfl (by first | rfl | assumption | exact vp_nar_int _) ?_
      exact hQ
    · have e : decide (a ≤ v ∧ v ≤ b) = true := by simp; exact ⟨by simpa using h2, by simpa using h7⟩
      rw [e] at hQ
      refine r_iconst (v := nI 1) dX3_in_10 (by decide) ?_
      refine r_goto (tgt := 15) dX3_in_11 (by decide) ?_
      refine r_ireturn dX3_in_15 rfl (by first | rfl | assumption | exact vp_nar_int _) ?_
      exact hQ
theorem s_at {c w : Nat} (hQ : Qr (some (vI (nI (102 + 21 * c + w)))) H) : AMet G d 0 0 yX3_at wX3_at H [vI (nI c), vI (nI w)] Qr Qx := by
  refine AMet.of (M := mX3_at) (maxL := 2) rfl rfl (Nat.le_of_ble_eq_true rfl) ?_
  show AW mX3_at _ _ _ _ _ _ _ 0 [some (vI (nI c)), some (vI (nI w))] []
  refine r_bipush (v := nI 102) dX3_at_0 (by decide) ?_
  refine r_bipush (v := nI 21) dX3_at_2 (by decide) ?_
  refine r_iload_n (i := 0) dX3_at_4 rfl rfl ?_
  refine r_imul dX3_at_5 ?_
  refine r_iadd dX3_at_6 ?_
  refine r_iload_n (i := 1) dX3_at_7 rfl rfl ?_
  refine r_iadd dX3_at_8 ?_
  refine r_ireturn dX3_at_9 rfl (by first | rfl | assumption | exact vp_nar_int _) ?_
  rw [pk_mul, nI_add, nI_add]
  exact hQ
theorem s_cableTold {c w : Nat} (hd : 1 ≤ d) (hM : MO H m ma) (hw : 102 + 21 * c + w < 385) (hQ : Qr (some (vI (gA H 1068 (ma 68) (102 + 21 * c + w)))) H) : AMet G d 0 0 yX3_cableTold wX3_cableTold H [vR (some m), vI (nI c), vI (nI w)] Qr Qx := by
  have e0 := hM.1
  obtain ⟨e68a, e68b, e68c⟩ : gR H 68 m = some (ma 68) ∧ kd H (ma 68) = 1068 ∧ ln H (ma 68) = 385 := hM.2 68 (by decide)
  refine AMet.of (M := mX3_cableTold) (maxL := 3) rfl rfl (Nat.le_of_ble_eq_true rfl) ?_
  show AW mX3_cableTold _ _ _ _ _ _ _ 0 [some (vR (some m)), some (vI (nI c)), some (vI (nI w))] []
  refine r_aload_n (i := 0) dX3_cableTold_0 rfl rfl ?_
  refine r_getR dX3_cableTold_1 fR_X3_7 (by first | assumption | (simp only [kd_sI, kd_sR, kd_sA, kd_sQ, kd_sL, kd_sD, ln_sI, ln_sR, ln_sA, ln_sQ, ln_sL, ln_sD, gI_sR, gI_sA, gI_sQ, gI_sL, gI_sD, gR_sI, gR_sA, gR_sQ, gR_sL, gR_sD, gA_sI, gA_sR, gA_sQ, gA_sL, gA_sD, gQ_sI, gQ_sR, gQ_sA, gQ_sL, gQ_sD, gL_sI, gL_sR, gL_sA, gL_sQ, gL_sD]; assumption) | simp [kd_sI, kd_sR, kd_sA, kd_sQ, kd_sL, kd_sD, ln_sI, ln_sR, ln_sA, ln_sQ, ln_sL, ln_sD, gI_sR, gI_sA, gI_sQ, gI_sL, gI_sD, gR_sI, gR_sA, gR_sQ, gR_sL, gR_sD, gA_sI, gA_sR, gA_sQ, gA_sL, gA_sD, gQ_sI, gQ_sR, gQ_sA, gQ_sL, gQ_sD, gL_sI, gL_sR, gL_sA, gL_sQ, gL_sD, kd_nO, kd_nA, *]) (by first | assumption | with_reducible rfl | (simp only [kd_sI, kd_sR, kd_sA, kd_sQ, kd_sL, kd_sD, ln_sI, ln_sR, ln_sA, ln_sQ, ln_sL, ln_sD, gI_sR, gI_sA, gI_sQ, gI_sL, gI_sD, gR_sI, gR_sA, gR_sQ, gR_sL, gR_sD, gA_sI, gA_sR, gA_sQ, gA_sL, gA_sD, gQ_sI, gQ_sR, gQ_sA, gQ_sL, gQ_sD, gL_sI, gL_sR, gL_sA, gL_sQ, gL_sD]; first | done | assumption | with_reducible rfl) | rfl) ?_
  refine r_iload_n (i := 1) dX3_cableTold_4 rfl rfl ?_
  refine r_iload_n (i := 2) dX3_cableTold_5 rfl rfl ?_
  refine r_callS (As := [_, _]) (mc' := 0) (ms' := 0) dX3_cableTold_6 k_X3_98 rfl (by first | assumption | omega) (by first | assumption | omega) (by first | assumption | omega) (Nat.le_of_ble_eq_true rfl) ?_
  refine s_at ?_
  refine r_iald dX3_cableTold_9 (by first | assumption | (simp only [kd_sI, kd_sR, kd_sA, kd_sQ, kd_sL, kd_sD, ln_sI, ln_sR, ln_sA, ln_sQ, ln_sL, ln_sD, gI_sR, gI_sA, gI_sQ, gI_sL, gI_sD, gR_sI, gR_sA, gR_sQ, gR_sL, gR_sD, gA_sI, gA_sR, gA_sQ, gA_sL, gA_sD, gQ_sI, gQ_sR, gQ_sA, gQ_sL, gQ_sD, gL_sI, gL_sR, gL_sA, gL_sQ, gL_sD]; assumption) | simp [kd_sI, kd_sR, kd_sA, kd_sQ, kd_sL, kd_sD, ln_sI, ln_sR, ln_sA, ln_sQ, ln_sL, ln_sD, gI_sR, gI_sA, gI_sQ, gI_sL, gI_sD, gR_sI, gR_sA, gR_sQ, gR_sL, gR_sD, gA_sI, gA_sR, gA_sQ, gA_sL, gA_sD, gQ_sI, gQ_sR, gQ_sA, gQ_sL, gQ_sD, gL_sI, gL_sR, gL_sA, gL_sQ, gL_sD, kd_nO, kd_nA, *]) (by decide) (by first | assumption | with_reducible rfl | (simp only [kd_sI, kd_sR, kd_sA, kd_sQ, kd_sL, kd_sD, ln_sI, ln_sR, ln_sA, ln_sQ, ln_sL, ln_sD, gI_sR, gI_sA, gI_sQ, gI_sL, gI_sD, gR_sI, gR_sA, gR_sQ, gR_sL, gR_sD, gA_sI, gA_sR, gA_sQ, gA_sL, gA_sD, gQ_sI, gQ_sR, gQ_sA, gQ_sL, gQ_sD, gL_sI, gL_sR, gL_sA, gL_sQ, gL_sD]; first | done | assumption | with_reducible rfl) | rfl) (by first | with_reducible rfl | assumption | (simp only [nI_add, pk_mul, nI_1]; with_reducible rfl)) (by first | assumption | omega) (by first | assumption | omega) (by first | assumption | with_reducible rfl | (simp only [kd_sI, kd_sR, kd_sA, kd_sQ, kd_sL, kd_sD, ln_sI, ln_sR, ln_sA, ln_sQ, ln_sL, ln_sD, gI_sR, gI_sA, gI_sQ, gI_sL, gI_sD, gR_sI, gR_sA, gR_sQ, gR_sL, gR_sD, gA_sI, gA_sR, gA_sQ, gA_sL, gA_sD, gQ_sI, gQ_sR, gQ_sA, gQ_sL, gQ_sD, gL_sI, gL_sR, gL_sA, gL_sQ, gL_sD]; first | done | assumption | with_reducible rfl) | rfl) ?_
  refine r_ireturn dX3_cableTold_10 rfl (by first | rfl | assumption | exact vp_nar_int _) ?_
  exact hQ
theorem s_trayTold {t w : Nat} (hM : MO H m ma) (hw : 41 + 5 * t + w < 385) (hQ : Qr (some (vI (gA H 1068 (ma 68) (41 + 5 * t + w)))) H) : AMet G d 0 0 yX3_trayTold wX3_trayTold H [vR (some m), vI (nI t), vI (nI w)] Qr Qx := by
  have e0 := hM.1
  obtain ⟨e68a, e68b, e68c⟩ : gR H 68 m = some (ma 68) ∧ kd H (ma 68) = 1068 ∧ ln H (ma 68) = 385 := hM.2 68 (by decide)
  refine AMet.of (M := mX3_trayTold) (maxL := 3) rfl rfl (Nat.le_of_ble_eq_true rfl) ?_
  show AW mX3_trayTold _ _ _ _ _ _ _ 0 [some (vR (some m)), some (vI (nI t)), some (vI (nI w))] []
  refine r_aload_n (i := 0) dX3_trayTold_0 rfl rfl ?_
  refine r_getR dX3_trayTold_1 fR_X3_7 (by first | assumption | (simp only [kd_sI, kd_sR, kd_sA, kd_sQ, kd_sL, kd_sD, ln_sI, ln_sR, ln_sA, ln_sQ, ln_sL, ln_sD, gI_sR, gI_sA, gI_sQ, gI_sL, gI_sD, gR_sI, gR_sA, gR_sQ, gR_sL, gR_sD, gA_sI, gA_sR, gA_sQ, gA_sL, gA_sD, gQ_sI, gQ_sR, gQ_sA, gQ_sL, gQ_sD, gL_sI, gL_sR, gL_sA, gL_sQ, gL_sD]; assumption) | simp [kd_sI, kd_sR, kd_sA, kd_sQ, kd_sL, kd_sD, ln_sI, ln_sR, ln_sA, ln_sQ, ln_sL, ln_sD, gI_sR, gI_sA, gI_sQ, gI_sL, gI_sD, gR_sI, gR_sA, gR_sQ, gR_sL, gR_sD, gA_sI, gA_sR, gA_sQ, gA_sL, gA_sD, gQ_sI, gQ_sR, gQ_sA, gQ_sL, gQ_sD, gL_sI, gL_sR, gL_sA, gL_sQ, gL_sD, kd_nO, kd_nA, *]) (by first | assumption | with_reducible rfl | (simp only [kd_sI, kd_sR, kd_sA, kd_sQ, kd_sL, kd_sD, ln_sI, ln_sR, ln_sA, ln_sQ, ln_sL, ln_sD, gI_sR, gI_sA, gI_sQ, gI_sL, gI_sD, gR_sI, gR_sA, gR_sQ, gR_sL, gR_sD, gA_sI, gA_sR, gA_sQ, gA_sL, gA_sD, gQ_sI, gQ_sR, gQ_sA, gQ_sL, gQ_sD, gL_sI, gL_sR, gL_sA, gL_sQ, gL_sD]; first | done | assumption | with_reducible rfl) | rfl) ?_
  refine r_bipush (v := nI 41) dX3_trayTold_4 (by decide) ?_
  refine r_iconst (v := nI 5) dX3_trayTold_6 (by decide) ?_
  refine r_iload_n (i := 1) dX3_trayTold_7 rfl rfl ?_
  refine r_imul dX3_trayTold_8 ?_
  refine r_iadd dX3_trayTold_9 ?_
  refine r_iload_n (i := 2) dX3_trayTold_10 rfl rfl ?_
  refine r_iadd dX3_trayTold_11 ?_
  refine r_iald dX3_trayTold_12 (by first | assumption | (simp only [kd_sI, kd_sR, kd_sA, kd_sQ, kd_sL, kd_sD, ln_sI, ln_sR, ln_sA, ln_sQ, ln_sL, ln_sD, gI_sR, gI_sA, gI_sQ, gI_sL, gI_sD, gR_sI, gR_sA, gR_sQ, gR_sL, gR_sD, gA_sI, gA_sR, gA_sQ, gA_sL, gA_sD, gQ_sI, gQ_sR, gQ_sA, gQ_sL, gQ_sD, gL_sI, gL_sR, gL_sA, gL_sQ, gL_sD]; assumption) | simp [kd_sI, kd_sR, kd_sA, kd_sQ, kd_sL, kd_sD, ln_sI, ln_sR, ln_sA, ln_sQ, ln_sL, ln_sD, gI_sR, gI_sA, gI_sQ, gI_sL, gI_sD, gR_sI, gR_sA, gR_sQ, gR_sL, gR_sD, gA_sI, gA_sR, gA_sQ, gA_sL, gA_sD, gQ_sI, gQ_sR, gQ_sA, gQ_sL, gQ_sD, gL_sI, gL_sR, gL_sA, gL_sQ, gL_sD, kd_nO, kd_nA, *]) (by decide) (by first | assumption | with_reducible rfl | (simp only [kd_sI, kd_sR, kd_sA, kd_sQ, kd_sL, kd_sD, ln_sI, ln_sR, ln_sA, ln_sQ, ln_sL, ln_sD, gI_sR, gI_sA, gI_sQ, gI_sL, gI_sD, gR_sI, gR_sA, gR_sQ, gR_sL, gR_sD, gA_sI, gA_sR, gA_sQ, gA_sL, gA_sD, gQ_sI, gQ_sR, gQ_sA, gQ_sL, gQ_sD, gL_sI, gL_sR, gL_sA, gL_sQ, gL_sD]; first | done | assumption | with_reducible rfl) | rfl) (by first | with_reducible rfl | assumption | (simp only [nI_add, pk_mul, nI_1]; with_reducible rfl)) (by first | assumption | omega) (by first | assumption | omega) (by first | assumption | with_reducible rfl | (simp only [kd_sI, kd_sR, kd_sA, kd_sQ, kd_sL, kd_sD, ln_sI, ln_sR, ln_sA, ln_sQ, ln_sL, ln_sD, gI_sR, gI_sA, gI_sQ, gI_sL, gI_sD, gR_sI, gR_sA, gR_sQ, gR_sL, gR_sD, gA_sI, gA_sR, gA_sQ, gA_sL, gA_sD, gQ_sI, gQ_sR, gQ_sA, gQ_sL, gQ_sD, gL_sI, gL_sR, gL_sA, gL_sQ, gL_sD]; first | done | assumption | with_reducible rfl) | rfl) ?_
  refine r_ireturn dX3_trayTold_13 rfl (by first | rfl | assumption | exact vp_nar_int _) ?_
  exact hQ
theorem s_drumTold {t w : Nat} (hM : MO H m ma) (hw : 355 + 3 * t + w < 385) (hQ : Qr (some (vI (gA H 1068 (ma 68) (355 + 3 * t + w)))) H) : AMet G d 0 0 yX3_drumTold wX3_drumTold H [vR (some m), vI (nI t), vI (nI w)] Qr Qx := by
  have e0 := hM.1
  obtain ⟨e68a, e68b, e68c⟩ : gR H 68 m = some (ma 68) ∧ kd H (ma 68) = 1068 ∧ ln H (ma 68) = 385 := hM.2 68 (by decide)
  refine AMet.of (M := mX3_drumTold) (maxL := 3) rfl rfl (Nat.le_of_ble_eq_true rfl) ?_
  show AW mX3_drumTold _ _ _ _ _ _ _ 0 [some (vR (some m)), some (vI (nI t)), some (vI (nI w))] []
  refine r_aload_n (i := 0) dX3_drumTold_0 rfl rfl ?_
  refine r_getR dX3_drumTold_1 fR_X3_7 (by first | assumption | (simp only [kd_sI, kd_sR, kd_sA, kd_sQ, kd_sL, kd_sD, ln_sI, ln_sR, ln_sA, ln_sQ, ln_sL, ln_sD, gI_sR, gI_sA, gI_sQ, gI_sL, gI_sD, gR_sI, gR_sA, gR_sQ, gR_sL, gR_sD, gA_sI, gA_sR, gA_sQ, gA_sL, gA_sD, gQ_sI, gQ_sR, gQ_sA, gQ_sL, gQ_sD, gL_sI, gL_sR, gL_sA, gL_sQ, gL_sD]; assumption) | simp [kd_sI, kd_sR, kd_sA, kd_sQ, kd_sL, kd_sD, ln_sI, ln_sR, ln_sA, ln_sQ, ln_sL, ln_sD, gI_sR, gI_sA, gI_sQ, gI_sL, gI_sD, gR_sI, gR_sA, gR_sQ, gR_sL, gR_sD, gA_sI, gA_sR, gA_sQ, gA_sL, gA_sD, gQ_sI, gQ_sR, gQ_sA, gQ_sL, gQ_sD, gL_sI, gL_sR, gL_sA, gL_sQ, gL_sD, kd_nO, kd_nA, *]) (by first | assumption | with_reducible rfl | (simp only [kd_sI, kd_sR, kd_sA, kd_sQ, kd_sL, kd_sD, ln_sI, ln_sR, ln_sA, ln_sQ, ln_sL, ln_sD, gI_sR, gI_sA, gI_sQ, gI_sL, gI_sD, gR_sI, gR_sA, gR_sQ, gR_sL, gR_sD, gA_sI, gA_sR, gA_sQ, gA_sL, gA_sD, gQ_sI, gQ_sR, gQ_sA, gQ_sL, gQ_sD, gL_sI, gL_sR, gL_sA, gL_sQ, gL_sD]; first | done | assumption | with_reducible rfl) | rfl) ?_
  refine r_sipush (v := nI 355) dX3_drumTold_4 (by decide) ?_
  refine r_iconst (v := nI 3) dX3_drumTold_7 (by decide) ?_
  refine r_iload_n (i := 1) dX3_drumTold_8 rfl rfl ?_
  refine r_imul dX3_drumTold_9 ?_
  refine r_iadd dX3_drumTold_10 ?_
  refine r_iload_n (i := 2) dX3_drumTold_11 rfl rfl ?_
  refine r_iadd dX3_drumTold_12 ?_
  refine r_iald dX3_drumTold_13 (by first | assumption | (simp only [kd_sI, kd_sR, kd_sA, kd_sQ, kd_sL, kd_sD, ln_sI, ln_sR, ln_sA, ln_sQ, ln_sL, ln_sD, gI_sR, gI_sA, gI_sQ, gI_sL, gI_sD, gR_sI, gR_sA, gR_sQ, gR_sL, gR_sD, gA_sI, gA_sR, gA_sQ, gA_sL, gA_sD, gQ_sI, gQ_sR, gQ_sA, gQ_sL, gQ_sD, gL_sI, gL_sR, gL_sA, gL_sQ, gL_sD]; assumption) | simp [kd_sI, kd_sR, kd_sA, kd_sQ, kd_sL, kd_sD, ln_sI, ln_sR, ln_sA, ln_sQ, ln_sL, ln_sD, gI_sR, gI_sA, gI_sQ, gI_sL, gI_sD, gR_sI, gR_sA, gR_sQ, gR_sL, gR_sD, gA_sI, gA_sR, gA_sQ, gA_sL, gA_sD, gQ_sI, gQ_sR, gQ_sA, gQ_sL, gQ_sD, gL_sI, gL_sR, gL_sA, gL_sQ, gL_sD, kd_nO, kd_nA, *]) (by decide) (by first | assumption | with_reducible rfl | (simp only [kd_sI, kd_sR, kd_sA, kd_sQ, kd_sL, kd_sD, ln_sI, ln_sR, ln_sA, ln_sQ, ln_sL, ln_sD, gI_sR, gI_sA, gI_sQ, gI_sL, gI_sD, gR_sI, gR_sA, gR_sQ, gR_sL, gR_sD, gA_sI, gA_sR, gA_sQ, gA_sL, gA_sD, gQ_sI, gQ_sR, gQ_sA, gQ_sL, gQ_sD, gL_sI, gL_sR, gL_sA, gL_sQ, gL_sD]; first | done | assumption | with_reducible rfl) | rfl) (by first | with_reducible rfl | assumption | (simp only [nI_add, pk_mul, nI_1]; with_reducible rfl)) (by first | assumption | omega) (by first | assumption | omega) (by first | assumption | with_reducible rfl | (simp only [kd_sI, kd_sR, kd_sA, kd_sQ, kd_sL, kd_sD, ln_sI, ln_sR, ln_sA, ln_sQ, ln_sL, ln_sD, gI_sR, gI_sA, gI_sQ, gI_sL, gI_sD, gR_sI, gR_sA, gR_sQ, gR_sL, gR_sD, gA_sI, gA_sR, gA_sQ, gA_sL, gA_sD, gQ_sI, gQ_sR, gQ_sA, gQ_sL, gQ_sD, gL_sI, gL_sR, gL_sA, gL_sQ, gL_sD]; first | done | assumption | with_reducible rfl) | rfl) ?_
  refine r_ireturn dX3_drumTold_14 rfl (by first | rfl | assumption | exact vp_nar_int _) ?_
  exact hQ
theorem s_classOf {t : Nat} (hM : MO H m ma) (hw : t < 6) (hQ : Qr (some (vI (gA H 1068 (ma 68) (8 + 6 * t)))) H) : AMet G d 0 0 yX3_classOf wX3_classOf H [vR (some m), vI (nI t)] Qr Qx := by
  have e0 := hM.1
  obtain ⟨e68a, e68b, e68c⟩ : gR H 68 m = some (ma 68) ∧ kd H (ma 68) = 1068 ∧ ln H (ma 68) = 385 := hM.2 68 (by decide)
  refine AMet.of (M := mX3_classOf) (maxL := 2) rfl rfl (Nat.le_of_ble_eq_true rfl) ?_
  show AW mX3_classOf _ _ _ _ _ _ _ 0 [some (vR (some m)), some (vI (nI t))] []
  refine r_aload_n (i := 0) dX3_classOf_0 rfl rfl ?_
  refine r_getR dX3_classOf_1 fR_X3_7 (by first | assumption | (simp only [kd_sI, kd_sR, kd_sA, kd_sQ, kd_sL, kd_sD, ln_sI, ln_sR, ln_sA, ln_sQ, ln_sL, ln_sD, gI_sR, gI_sA, gI_sQ, gI_sL, gI_sD, gR_sI, gR_sA, gR_sQ, gR_sL, gR_sD, gA_sI, gA_sR, gA_sQ, gA_sL, gA_sD, gQ_sI, gQ_sR, gQ_sA, gQ_sL, gQ_sD, gL_sI, gL_sR, gL_sA, gL_sQ, gL_sD]; assumption) | simp [kd_sI, kd_sR, kd_sA, kd_sQ, kd_sL, kd_sD, ln_sI, ln_sR, ln_sA, ln_sQ, ln_sL, ln_sD, gI_sR, gI_sA, gI_sQ, gI_sL, gI_sD, gR_sI, gR_sA, gR_sQ, gR_sL, gR_sD, gA_sI, gA_sR, gA_sQ, gA_sL, gA_sD, gQ_sI, gQ_sR, gQ_sA, gQ_sL, gQ_sD, gL_sI, gL_sR, gL_sA, gL_sQ, gL_sD, kd_nO, kd_nA, *]) (by first | assumption | with_reducible rfl | (simp only [kd_sI, kd_sR, kd_sA, kd_sQ, kd_sL, kd_sD, ln_sI, ln_sR, ln_sA, ln_sQ, ln_sL, ln_sD, gI_sR, gI_sA, gI_sQ, gI_sL, gI_sD, gR_sI, gR_sA, gR_sQ, gR_sL, gR_sD, gA_sI, gA_sR, gA_sQ, gA_sL, gA_sD, gQ_sI, gQ_sR, gQ_sA, gQ_sL, gQ_sD, gL_sI, gL_sR, gL_sA, gL_sQ, gL_sD]; first | done | assumption | with_reducible rfl) | rfl) ?_
  refine r_iconst (v := nI 4) dX3_classOf_4 (by decide) ?_
  refine r_bipush (v := nI 6) dX3_classOf_5 (by decide) ?_
  refine r_iload_n (i := 1) dX3_classOf_7 rfl rfl ?_
  refine r_imul dX3_classOf_8 ?_
  refine r_iadd dX3_classOf_9 ?_
  refine r_iconst (v := nI 4) dX3_classOf_10 (by decide) ?_
  refine r_iadd dX3_classOf_11 ?_
  refine r_iald dX3_classOf_12 (by first | assumption | (simp only [kd_sI, kd_sR, kd_sA, kd_sQ, kd_sL, kd_sD, ln_sI, ln_sR, ln_sA, ln_sQ, ln_sL, ln_sD, gI_sR, gI_sA, gI_sQ, gI_sL, gI_sD, gR_sI, gR_sA, gR_sQ, gR_sL, gR_sD, gA_sI, gA_sR, gA_sQ, gA_sL, gA_sD, gQ_sI, gQ_sR, gQ_sA, gQ_sL, gQ_sD, gL_sI, gL_sR, gL_sA, gL_sQ, gL_sD]; assumption) | simp [kd_sI, kd_sR, kd_sA, kd_sQ, kd_sL, kd_sD, ln_sI, ln_sR, ln_sA, ln_sQ, ln_sL, ln_sD, gI_sR, gI_sA, gI_sQ, gI_sL, gI_sD, gR_sI, gR_sA, gR_sQ, gR_sL, gR_sD, gA_sI, gA_sR, gA_sQ, gA_sL, gA_sD, gQ_sI, gQ_sR, gQ_sA, gQ_sL, gQ_sD, gL_sI, gL_sR, gL_sA, gL_sQ, gL_sD, kd_nO, kd_nA, *]) (by decide) (by first | assumption | with_reducible rfl | (simp only [kd_sI, kd_sR, kd_sA, kd_sQ, kd_sL, kd_sD, ln_sI, ln_sR, ln_sA, ln_sQ, ln_sL, ln_sD, gI_sR, gI_sA, gI_sQ, gI_sL, gI_sD, gR_sI, gR_sA, gR_sQ, gR_sL, gR_sD, gA_sI, gA_sR, gA_sQ, gA_sL, gA_sD, gQ_sI, gQ_sR, gQ_sA, gQ_sL, gQ_sD, gL_sI, gL_sR, gL_sA, gL_sQ, gL_sD]; first | done | assumption | with_reducible rfl) | rfl) (by first | with_reducible rfl | assumption | (simp only [nI_add, pk_mul, nI_1]; with_reducible rfl)) (by first | assumption | omega) (by first | assumption | omega) (by first | assumption | with_reducible rfl | (simp only [kd_sI, kd_sR, kd_sA, kd_sQ, kd_sL, kd_sD, ln_sI, ln_sR, ln_sA, ln_sQ, ln_sL, ln_sD, gI_sR, gI_sA, gI_sQ, gI_sL, gI_sD, gR_sI, gR_sA, gR_sQ, gR_sL, gR_sD, gA_sI, gA_sR, gA_sQ, gA_sL, gA_sD, gQ_sI, gQ_sR, gQ_sA, gQ_sL, gQ_sD, gL_sI, gL_sR, gL_sA, gL_sQ, gL_sD]; first | done | assumption | with_reducible rfl) | rfl) ?_
  refine r_ireturn dX3_classOf_13 rfl (by first | rfl | assumption | exact vp_nar_int _) ?_
  rw [show 4 + 6 * t + 4 = 8 + 6 * t by omega]
  exact hQ
theorem s_areaOf {t : Nat} (hM : MO H m ma) (hw : t < 6) (hQ : Qr (some (vI (gA H 1068 (ma 68) (9 + 6 * t)))) H) : AMet G d 0 0 yX3_areaOf wX3_areaOf H [vR (some m), vI (nI t)] Qr Qx := by
  have e0 := hM.1
  obtain ⟨e68a, e68b, e68c⟩ : gR H 68 m = some (ma 68) ∧ kd H (ma 68) = 1068 ∧ ln H (ma 68) = 385 := hM.2 68 (by decide)
  refine AMet.of (M := mX3_areaOf) (maxL := 2) rfl rfl (Nat.le_of_ble_eq_true rfl) ?_
  show AW mX3_areaOf _ _ _ _ _ _ _ 0 [some (vR (some m)), some (vI (nI t))] []
  refine r_aload_n (i := 0) dX3_areaOf_0 rfl rfl ?_
  refine r_getR dX3_areaOf_1 fR_X3_7 (by first | assumption | (simp only [kd_sI, kd_sR, kd_sA, kd_sQ, kd_sL, kd_sD, ln_sI, ln_sR, ln_sA, ln_sQ, ln_sL, ln_sD, gI_sR, gI_sA, gI_sQ, gI_sL, gI_sD, gR_sI, gR_sA, gR_sQ, gR_sL, gR_sD, gA_sI, gA_sR, gA_sQ, gA_sL, gA_sD, gQ_sI, gQ_sR, gQ_sA, gQ_sL, gQ_sD, gL_sI, gL_sR, gL_sA, gL_sQ, gL_sD]; assumption) | simp [kd_sI, kd_sR, kd_sA, kd_sQ, kd_sL, kd_sD, ln_sI, ln_sR, ln_sA, ln_sQ, ln_sL, ln_sD, gI_sR, gI_sA, gI_sQ, gI_sL, gI_sD, gR_sI, gR_sA, gR_sQ, gR_sL, gR_sD, gA_sI, gA_sR, gA_sQ, gA_sL, gA_sD, gQ_sI, gQ_sR, gQ_sA, gQ_sL, gQ_sD, gL_sI, gL_sR, gL_sA, gL_sQ, gL_sD, kd_nO, kd_nA, *]) (by first | assumption | with_reducible rfl | (simp only [kd_sI, kd_sR, kd_sA, kd_sQ, kd_sL, kd_sD, ln_sI, ln_sR, ln_sA, ln_sQ, ln_sL, ln_sD, gI_sR, gI_sA, gI_sQ, gI_sL, gI_sD, gR_sI, gR_sA, gR_sQ, gR_sL, gR_sD, gA_sI, gA_sR, gA_sQ, gA_sL, gA_sD, gQ_sI, gQ_sR, gQ_sA, gQ_sL, gQ_sD, gL_sI, gL_sR, gL_sA, gL_sQ, gL_sD]; first | done | assumption | with_reducible rfl) | rfl) ?_
  refine r_iconst (v := nI 4) dX3_areaOf_4 (by decide) ?_
  refine r_bipush (v := nI 6) dX3_areaOf_5 (by decide) ?_
  refine r_iload_n (i := 1) dX3_areaOf_7 rfl rfl ?_
  refine r_imul dX3_areaOf_8 ?_
  refine r_iadd dX3_areaOf_9 ?_
  refine r_iconst (v := nI 5) dX3_areaOf_10 (by decide) ?_
  refine r_iadd dX3_areaOf_11 ?_
  refine r_iald dX3_areaOf_12 (by first | assumption | (simp only [kd_sI, kd_sR, kd_sA, kd_sQ, kd_sL, kd_sD, ln_sI, ln_sR, ln_sA, ln_sQ, ln_sL, ln_sD, gI_sR, gI_sA, gI_sQ, gI_sL, gI_sD, gR_sI, gR_sA, gR_sQ, gR_sL, gR_sD, gA_sI, gA_sR, gA_sQ, gA_sL, gA_sD, gQ_sI, gQ_sR, gQ_sA, gQ_sL, gQ_sD, gL_sI, gL_sR, gL_sA, gL_sQ, gL_sD]; assumption) | simp [kd_sI, kd_sR, kd_sA, kd_sQ, kd_sL, kd_sD, ln_sI, ln_sR, ln_sA, ln_sQ, ln_sL, ln_sD, gI_sR, gI_sA, gI_sQ, gI_sL, gI_sD, gR_sI, gR_sA, gR_sQ, gR_sL, gR_sD, gA_sI, gA_sR, gA_sQ, gA_sL, gA_sD, gQ_sI, gQ_sR, gQ_sA, gQ_sL, gQ_sD, gL_sI, gL_sR, gL_sA, gL_sQ, gL_sD, kd_nO, kd_nA, *]) (by decide) (by first | assumption | with_reducible rfl | (simp only [kd_sI, kd_sR, kd_sA, kd_sQ, kd_sL, kd_sD, ln_sI, ln_sR, ln_sA, ln_sQ, ln_sL, ln_sD, gI_sR, gI_sA, gI_sQ, gI_sL, gI_sD, gR_sI, gR_sA, gR_sQ, gR_sL, gR_sD, gA_sI, gA_sR, gA_sQ, gA_sL, gA_sD, gQ_sI, gQ_sR, gQ_sA, gQ_sL, gQ_sD, gL_sI, gL_sR, gL_sA, gL_sQ, gL_sD]; first | done | assumption | with_reducible rfl) | rfl) (by first | with_reducible rfl | assumption | (simp only [nI_add, pk_mul, nI_1]; with_reducible rfl)) (by first | assumption | omega) (by first | assumption | omega) (by first | assumption | with_reducible rfl | (simp only [kd_sI, kd_sR, kd_sA, kd_sQ, kd_sL, kd_sD, ln_sI, ln_sR, ln_sA, ln_sQ, ln_sL, ln_sD, gI_sR, gI_sA, gI_sQ, gI_sL, gI_sD, gR_sI, gR_sA, gR_sQ, gR_sL, gR_sD, gA_sI, gA_sR, gA_sQ, gA_sL, gA_sD, gQ_sI, gQ_sR, gQ_sA, gQ_sL, gQ_sD, gL_sI, gL_sR, gL_sA, gL_sQ, gL_sD]; first | done | assumption | with_reducible rfl) | rfl) ?_
  refine r_ireturn dX3_areaOf_13 rfl (by first | rfl | assumption | exact vp_nar_int _) ?_
  rw [show 4 + 6 * t + 5 = 9 + 6 * t by omega]
  exact hQ
/-- isType, isTray, isCable, isDrum, isPlace -/
def inB (v a b : Int32) : Bool := decide (a ≤ v ∧ v ≤ b)
theorem s_isPlace {v : Int32} (hd : 1 ≤ d) (hQ : Qr (some (vI (bI (inB v (nI 0) (nI 7))))) H) : AMet G d 0 0 yX3_isPlace wX3_isPlace H [vI v] Qr Qx := by
  refine AMet.of (M := mX3_isPlace) (maxL := 1) rfl rfl (Nat.le_of_ble_eq_true rfl) ?_
  show AW mX3_isPlace _ _ _ _ _ _ _ 0 [some (vI v)] []
  refine r_iload_n (i := 0) dX3_isPlace_0 rfl rfl ?_
  refine r_iconst (v := nI 0) dX3_isPlace_1 (by decide) ?_
  refine r_bipush (v := nI 7) dX3_isPlace_2 (by decide) ?_
  refine r_callS (As := [_, _, _]) (mc' := 0) (ms' := 0) dX3_isPlace_4 k_X3_90 rfl (by first | assumption | omega) (by first | assumption | omega) (by first | assumption | omega) (Nat.le_of_ble_eq_true rfl) ?_
  refine s_in ?_
  unfold inB at hQ
  generalize decide (nI 0 ≤ v ∧ v ≤ nI 7) = b at hQ ⊢
  refine r_ireturn dX3_isPlace_7 rfl (by cases b <;> rfl) ?_
  exact hQ
theorem s_isType {v : Int32} (hd : 1 ≤ d) (hM : MO H m ma) (hQ : Qr (some (vI (bI (inB v (nI 0) (gA H 1068 (ma 68) 3 - nI 1))))) H) : AMet G d 0 0 yX3_isType wX3_isType H [vR (some m), vI v] Qr Qx := by
  have e0 := hM.1
  obtain ⟨e68a, e68b, e68c⟩ : gR H 68 m = some (ma 68) ∧ kd H (ma 68) = 1068 ∧ ln H (ma 68) = 385 := hM.2 68 (by decide)
  refine AMet.of (M := mX3_isType) (maxL := 2) rfl rfl (Nat.le_of_ble_eq_true rfl) ?_
  show AW mX3_isType _ _ _ _ _ _ _ 0 [some (vR (some m)), some (vI v)] []
  refine r_iload_n (i := 1) dX3_isType_0 rfl rfl ?_
  refine r_iconst (v := nI 0) dX3_isType_1 (by decide) ?_
  refine r_aload_n (i := 0) dX3_isType_2 rfl rfl ?_
  refine r_getR dX3_isType_3 fR_X3_7 (by first | assumption | (simp only [kd_sI, kd_sR, kd_sA, kd_sQ, kd_sL, kd_sD, ln_sI, ln_sR, ln_sA, ln_sQ, ln_sL, ln_sD, gI_sR, gI_sA, gI_sQ, gI_sL, gI_sD, gR_sI, gR_sA, gR_sQ, gR_sL, gR_sD, gA_sI, gA_sR, gA_sQ, gA_sL, gA_sD, gQ_sI, gQ_sR, gQ_sA, gQ_sL, gQ_sD, gL_sI, gL_sR, gL_sA, gL_sQ, gL_sD]; assumption) | simp [kd_sI, kd_sR, kd_sA, kd_sQ, kd_sL, kd_sD, ln_sI, ln_sR, ln_sA, ln_sQ, ln_sL, ln_sD, gI_sR, gI_sA, gI_sQ, gI_sL, gI_sD, gR_sI, gR_sA, gR_sQ, gR_sL, gR_sD, gA_sI, gA_sR, gA_sQ, gA_sL, gA_sD, gQ_sI, gQ_sR, gQ_sA, gQ_sL, gQ_sD, gL_sI, gL_sR, gL_sA, gL_sQ, gL_sD, kd_nO, kd_nA, *]) (by first | assumption | with_reducible rfl | (simp only [kd_sI, kd_sR, kd_sA, kd_sQ, kd_sL, kd_sD, ln_sI, ln_sR, ln_sA, ln_sQ, ln_sL, ln_sD, gI_sR, gI_sA, gI_sQ, gI_sL, gI_sD, gR_sI, gR_sA, gR_sQ, gR_sL, gR_sD, gA_sI, gA_sR, gA_sQ, gA_sL, gA_sD, gQ_sI, gQ_sR, gQ_sA, gQ_sL, gQ_sD, gL_sI, gL_sR, gL_sA, gL_sQ, gL_sD]; first | done | assumption | with_reducible rfl) | rfl) ?_
  refine r_iconst (v := nI 3) dX3_isType_6 (by decide) ?_
  refine r_iald dX3_isType_7 (by first | assumption | (simp only [kd_sI, kd_sR, kd_sA, kd_sQ, kd_sL, kd_sD, ln_sI, ln_sR, ln_sA, ln_sQ, ln_sL, ln_sD, gI_sR, gI_sA, gI_sQ, gI_sL, gI_sD, gR_sI, gR_sA, gR_sQ, gR_sL, gR_sD, gA_sI, gA_sR, gA_sQ, gA_sL, gA_sD, gQ_sI, gQ_sR, gQ_sA, gQ_sL, gQ_sD, gL_sI, gL_sR, gL_sA, gL_sQ, gL_sD]; assumption) | simp [kd_sI, kd_sR, kd_sA, kd_sQ, kd_sL, kd_sD, ln_sI, ln_sR, ln_sA, ln_sQ, ln_sL, ln_sD, gI_sR, gI_sA, gI_sQ, gI_sL, gI_sD, gR_sI, gR_sA, gR_sQ, gR_sL, gR_sD, gA_sI, gA_sR, gA_sQ, gA_sL, gA_sD, gQ_sI, gQ_sR, gQ_sA, gQ_sL, gQ_sD, gL_sI, gL_sR, gL_sA, gL_sQ, gL_sD, kd_nO, kd_nA, *]) (by decide) (by first | assumption | with_reducible rfl | (simp only [kd_sI, kd_sR, kd_sA, kd_sQ, kd_sL, kd_sD, ln_sI, ln_sR, ln_sA, ln_sQ, ln_sL, ln_sD, gI_sR, gI_sA, gI_sQ, gI_sL, gI_sD, gR_sI, gR_sA, gR_sQ, gR_sL, gR_sD, gA_sI, gA_sR, gA_sQ, gA_sL, gA_sD, gQ_sI, gQ_sR, gQ_sA, gQ_sL, gQ_sD, gL_sI, gL_sR, gL_sA, gL_sQ, gL_sD]; first | done | assumption | with_reducible rfl) | rfl) (by first | with_reducible rfl | assumption | (simp only [nI_add, pk_mul, nI_1]; with_reducible rfl)) (by first | assumption | omega) (by first | assumption | omega) (by first | assumption | with_reducible rfl | (simp only [kd_sI, kd_sR, kd_sA, kd_sQ, kd_sL, kd_sD, ln_sI, ln_sR, ln_sA, ln_sQ, ln_sL, ln_sD, gI_sR, gI_sA, gI_sQ, gI_sL, gI_sD, gR_sI, gR_sA, gR_sQ, gR_sL, gR_sD, gA_sI, gA_sR, gA_sQ, gA_sL, gA_sD, gQ_sI, gQ_sR, gQ_sA, gQ_sL, gQ_sD, gL_sI, gL_sR, gL_sA, gL_sQ, gL_sD]; first | done | assumption | with_reducible rfl) | rfl) ?_
  refine r_iconst (v := nI 1) dX3_isType_8 (by decide) ?_
  refine r_isub dX3_isType_9 ?_
  refine r_callS (As := [_, _, _]) (mc' := 0) (ms' := 0) dX3_isType_10 k_X3_90 rfl (by first | assumption | omega) (by first | assumption | omega) (by first | assumption | omega) (Nat.le_of_ble_eq_true rfl) ?_
  refine s_in ?_
  unfold inB at hQ
  generalize decide (nI 0 ≤ v ∧ v ≤ gA H 1068 (ma 68) 3 - nI 1) = b at hQ ⊢
  refine r_ireturn dX3_isType_13 rfl (by cases b <;> rfl) ?_
  exact hQ
theorem s_isTray {v : Int32} (hd : 1 ≤ d) (hM : MO H m ma) (hQ : Qr (some (vI (bI (inB v (nI 0) (gA H 1068 (ma 68) 40 - nI 1))))) H) : AMet G d 0 0 yX3_isTray wX3_isTray H [vR (some m), vI v] Qr Qx := by
  have e0 := hM.1
  obtain ⟨e68a, e68b, e68c⟩ : gR H 68 m = some (ma 68) ∧ kd H (ma 68) = 1068 ∧ ln H (ma 68) = 385 := hM.2 68 (by decide)
  refine AMet.of (M := mX3_isTray) (maxL := 2) rfl rfl (Nat.le_of_ble_eq_true rfl) ?_
  show AW mX3_isTray _ _ _ _ _ _ _ 0 [some (vR (some m)), some (vI v)] []
  refine r_iload_n (i := 1) dX3_isTray_0 rfl rfl ?_
  refine r_iconst (v := nI 0) dX3_isTray_1 (by decide) ?_
  refine r_aload_n (i := 0) dX3_isTray_2 rfl rfl ?_
  refine r_getR dX3_isTray_3 fR_X3_7 (by first | assumption | (simp only [kd_sI, kd_sR, kd_sA, kd_sQ, kd_sL, kd_sD, ln_sI, ln_sR, ln_sA, ln_sQ, ln_sL, ln_sD, gI_sR, gI_sA, gI_sQ, gI_sL, gI_sD, gR_sI, gR_sA, gR_sQ, gR_sL, gR_sD, gA_sI, gA_sR, gA_sQ, gA_sL, gA_sD, gQ_sI, gQ_sR, gQ_sA, gQ_sL, gQ_sD, gL_sI, gL_sR, gL_sA, gL_sQ, gL_sD]; assumption) | simp [kd_sI, kd_sR, kd_sA, kd_sQ, kd_sL, kd_sD, ln_sI, ln_sR, ln_sA, ln_sQ, ln_sL, ln_sD, gI_sR, gI_sA, gI_sQ, gI_sL, gI_sD, gR_sI, gR_sA, gR_sQ, gR_sL, gR_sD, gA_sI, gA_sR, gA_sQ, gA_sL, gA_sD, gQ_sI, gQ_sR, gQ_sA, gQ_sL, gQ_sD, gL_sI, gL_sR, gL_sA, gL_sQ, gL_sD, kd_nO, kd_nA, *]) (by first | assumption | with_reducible rfl | (simp only [kd_sI, kd_sR, kd_sA, kd_sQ, kd_sL, kd_sD, ln_sI, ln_sR, ln_sA, ln_sQ, ln_sL, ln_sD, gI_sR, gI_sA, gI_sQ, gI_sL, gI_sD, gR_sI, gR_sA, gR_sQ, gR_sL, gR_sD, gA_sI, gA_sR, gA_sQ, gA_sL, gA_sD, gQ_sI, gQ_sR, gQ_sA, gQ_sL, gQ_sD, gL_sI, gL_sR, gL_sA, gL_sQ, gL_sD]; first | done | assumption | with_reducible rfl) | rfl) ?_
  refine r_bipush (v := nI 40) dX3_isTray_6 (by decide) ?_
  refine r_iald dX3_isTray_8 (by first | assumption | (simp only [kd_sI, kd_sR, kd_sA, kd_sQ, kd_sL, kd_sD, ln_sI, ln_sR, ln_sA, ln_sQ, ln_sL, ln_sD, gI_sR, gI_sA, gI_sQ, gI_sL, gI_sD, gR_sI, gR_sA, gR_sQ, gR_sL, gR_sD, gA_sI, gA_sR, gA_sQ, gA_sL, gA_sD, gQ_sI, gQ_sR, gQ_sA, gQ_sL, gQ_sD, gL_sI, gL_sR, gL_sA, gL_sQ, gL_sD]; assumption) | simp [kd_sI, kd_sR, kd_sA, kd_sQ, kd_sL, kd_sD, ln_sI, ln_sR, ln_sA, ln_sQ, ln_sL, ln_sD, gI_sR, gI_sA, gI_sQ, gI_sL, gI_sD, gR_sI, gR_sA, gR_sQ, gR_sL, gR_sD, gA_sI, gA_sR, gA_sQ, gA_sL, gA_sD, gQ_sI, gQ_sR, gQ_sA, gQ_sL, gQ_sD, gL_sI, gL_sR, gL_sA, gL_sQ, gL_sD, kd_nO, kd_nA, *]) (by decide) (by first | assumption | with_reducible rfl | (simp only [kd_sI, kd_sR, kd_sA, kd_sQ, kd_sL, kd_sD, ln_sI, ln_sR, ln_sA, ln_sQ, ln_sL, ln_sD, gI_sR, gI_sA, gI_sQ, gI_sL, gI_sD, gR_sI, gR_sA, gR_sQ, gR_sL, gR_sD, gA_sI, gA_sR, gA_sQ, gA_sL, gA_sD, gQ_sI, gQ_sR, gQ_sA, gQ_sL, gQ_sD, gL_sI, gL_sR, gL_sA, gL_sQ, gL_sD]; first | done | assumption | with_reducible rfl) | rfl) (by first | with_reducible rfl | assumption | (simp only [nI_add, pk_mul, nI_1]; with_reducible rfl)) (by first | assumption | omega) (by first | assumption | omega) (by first | assumption | with_reducible rfl | (simp only [kd_sI, kd_sR, kd_sA, kd_sQ, kd_sL, kd_sD, ln_sI, ln_sR, ln_sA, ln_sQ, ln_sL, ln_sD, gI_sR, gI_sA, gI_sQ, gI_sL, gI_sD, gR_sI, gR_sA, gR_sQ, gR_sL, gR_sD, gA_sI, gA_sR, gA_sQ, gA_sL, gA_sD, gQ_sI, gQ_sR, gQ_sA, gQ_sL, gQ_sD, gL_sI, gL_sR, gL_sA, gL_sQ, gL_sD]; first | done | assumption | with_reducible rfl) | rfl) ?_
  refine r_iconst (v := nI 1) dX3_isTray_9 (by decide) ?_
  refine r_isub dX3_isTray_10 ?_
  refine r_callS (As := [_, _, _]) (mc' := 0) (ms' := 0) dX3_isTray_11 k_X3_90 rfl (by first | assumption | omega) (by first | assumption | omega) (by first | assumption | omega) (Nat.le_of_ble_eq_true rfl) ?_
  refine s_in ?_
  unfold inB at hQ
  generalize decide (nI 0 ≤ v ∧ v ≤ gA H 1068 (ma 68) 40 - nI 1) = b at hQ ⊢
  refine r_ireturn dX3_isTray_14 rfl (by cases b <;> rfl) ?_
  exact hQ
theorem s_isCable {v : Int32} (hd : 1 ≤ d) (hM : MO H m ma) (hQ : Qr (some (vI (bI (inB v (nI 0) (gA H 1068 (ma 68) 101 - nI 1))))) H) : AMet G d 0 0 yX3_isCable wX3_isCable H [vR (some m), vI v] Qr Qx := by
  have e0 := hM.1
  obtain ⟨e68a, e68b, e68c⟩ : gR H 68 m = some (ma 68) ∧ kd H (ma 68) = 1068 ∧ ln H (ma 68) = 385 := hM.2 68 (by decide)
  refine AMet.of (M := mX3_isCable) (maxL := 2) rfl rfl (Nat.le_of_ble_eq_true rfl) ?_
  show AW mX3_isCable _ _ _ _ _ _ _ 0 [some (vR (some m)), some (vI v)] []
  refine r_iload_n (i := 1) dX3_isCable_0 rfl rfl ?_
  refine r_iconst (v := nI 0) dX3_isCable_1 (by decide) ?_
  refine r_aload_n (i := 0) dX3_isCable_2 rfl rfl ?_
  refine r_getR dX3_isCable_3 fR_X3_7 (by first | assumption | (simp only [kd_sI, kd_sR, kd_sA, kd_sQ, kd_sL, kd_sD, ln_sI, ln_sR, ln_sA, ln_sQ, ln_sL, ln_sD, gI_sR, gI_sA, gI_sQ, gI_sL, gI_sD, gR_sI, gR_sA, gR_sQ, gR_sL, gR_sD, gA_sI, gA_sR, gA_sQ, gA_sL, gA_sD, gQ_sI, gQ_sR, gQ_sA, gQ_sL, gQ_sD, gL_sI, gL_sR, gL_sA, gL_sQ, gL_sD]; assumption) | simp [kd_sI, kd_sR, kd_sA, kd_sQ, kd_sL, kd_sD, ln_sI, ln_sR, ln_sA, ln_sQ, ln_sL, ln_sD, gI_sR, gI_sA, gI_sQ, gI_sL, gI_sD, gR_sI, gR_sA, gR_sQ, gR_sL, gR_sD, gA_sI, gA_sR, gA_sQ, gA_sL, gA_sD, gQ_sI, gQ_sR, gQ_sA, gQ_sL, gQ_sD, gL_sI, gL_sR, gL_sA, gL_sQ, gL_sD, kd_nO, kd_nA, *]) (by first | assumption | with_reducible rfl | (simp only [kd_sI, kd_sR, kd_sA, kd_sQ, kd_sL, kd_sD, ln_sI, ln_sR, ln_sA, ln_sQ, ln_sL, ln_sD, gI_sR, gI_sA, gI_sQ, gI_sL, gI_sD, gR_sI, gR_sA, gR_sQ, gR_sL, gR_sD, gA_sI, gA_sR, gA_sQ, gA_sL, gA_sD, gQ_sI, gQ_sR, gQ_sA, gQ_sL, gQ_sD, gL_sI, gL_sR, gL_sA, gL_sQ, gL_sD]; first | done | assumption | with_reducible rfl) | rfl) ?_
  refine r_bipush (v := nI 101) dX3_isCable_6 (by decide) ?_
  refine r_iald dX3_isCable_8 (by first | assumption | (simp only [kd_sI, kd_sR, kd_sA, kd_sQ, kd_sL, kd_sD, ln_sI, ln_sR, ln_sA, ln_sQ, ln_sL, ln_sD, gI_sR, gI_sA, gI_sQ, gI_sL, gI_sD, gR_sI, gR_sA, gR_sQ, gR_sL, gR_sD, gA_sI, gA_sR, gA_sQ, gA_sL, gA_sD, gQ_sI, gQ_sR, gQ_sA, gQ_sL, gQ_sD, gL_sI, gL_sR, gL_sA, gL_sQ, gL_sD]; assumption) | simp [kd_sI, kd_sR, kd_sA, kd_sQ, kd_sL, kd_sD, ln_sI, ln_sR, ln_sA, ln_sQ, ln_sL, ln_sD, gI_sR, gI_sA, gI_sQ, gI_sL, gI_sD, gR_sI, gR_sA, gR_sQ, gR_sL, gR_sD, gA_sI, gA_sR, gA_sQ, gA_sL, gA_sD, gQ_sI, gQ_sR, gQ_sA, gQ_sL, gQ_sD, gL_sI, gL_sR, gL_sA, gL_sQ, gL_sD, kd_nO, kd_nA, *]) (by decide) (by first | assumption | with_reducible rfl | (simp only [kd_sI, kd_sR, kd_sA, kd_sQ, kd_sL, kd_sD, ln_sI, ln_sR, ln_sA, ln_sQ, ln_sL, ln_sD, gI_sR, gI_sA, gI_sQ, gI_sL, gI_sD, gR_sI, gR_sA, gR_sQ, gR_sL, gR_sD, gA_sI, gA_sR, gA_sQ, gA_sL, gA_sD, gQ_sI, gQ_sR, gQ_sA, gQ_sL, gQ_sD, gL_sI, gL_sR, gL_sA, gL_sQ, gL_sD]; first | done | assumption | with_reducible rfl) | rfl) (by first | with_reducible rfl | assumption | (simp only [nI_add, pk_mul, nI_1]; with_reducible rfl)) (by first | assumption | omega) (by first | assumption | omega) (by first | assumption | with_reducible rfl | (simp only [kd_sI, kd_sR, kd_sA, kd_sQ, kd_sL, kd_sD, ln_sI, ln_sR, ln_sA, ln_sQ, ln_sL, ln_sD, gI_sR, gI_sA, gI_sQ, gI_sL, gI_sD, gR_sI, gR_sA, gR_sQ, gR_sL, gR_sD, gA_sI, gA_sR, gA_sQ, gA_sL, gA_sD, gQ_sI, gQ_sR, gQ_sA, gQ_sL, gQ_sD, gL_sI, gL_sR, gL_sA, gL_sQ, gL_sD]; first | done | assumption | with_reducible rfl) | rfl) ?_
  refine r_iconst (v := nI 1) dX3_isCable_9 (by decide) ?_
  refine r_isub dX3_isCable_10 ?_
  refine r_callS (As := [_, _, _]) (mc' := 0) (ms' := 0) dX3_isCable_11 k_X3_90 rfl (by first | assumption | omega) (by first | assumption | omega) (by first | assumption | omega) (Nat.le_of_ble_eq_true rfl) ?_
  refine s_in ?_
  unfold inB at hQ
  generalize decide (nI 0 ≤ v ∧ v ≤ gA H 1068 (ma 68) 101 - nI 1) = b at hQ ⊢
  refine r_ireturn dX3_isCable_14 rfl (by cases b <;> rfl) ?_
  exact hQ
theorem s_isDrum {v : Int32} (hd : 1 ≤ d) (hM : MO H m ma) (hQ : Qr (some (vI (bI (inB v (nI 0) (gA H 1068 (ma 68) 354 - nI 1))))) H) : AMet G d 0 0 yX3_isDrum wX3_isDrum H [vR (some m), vI v] Qr Qx := by
  have e0 := hM.1
  obtain ⟨e68a, e68b, e68c⟩ : gR H 68 m = some (ma 68) ∧ kd H (ma 68) = 1068 ∧ ln H (ma 68) = 385 := hM.2 68 (by decide)
  refine AMet.of (M := mX3_isDrum) (maxL := 2) rfl rfl (Nat.le_of_ble_eq_true rfl) ?_
  show AW mX3_isDrum _ _ _ _ _ _ _ 0 [some (vR (some m)), some (vI v)] []
  refine r_iload_n (i := 1) dX3_isDrum_0 rfl rfl ?_
  refine r_iconst (v := nI 0) dX3_isDrum_1 (by decide) ?_
  refine r_aload_n (i := 0) dX3_isDrum_2 rfl rfl ?_
  refine r_getR dX3_isDrum_3 fR_X3_7 (by first | assumption | (simp only [kd_sI, kd_sR, kd_sA, kd_sQ, kd_sL, kd_sD, ln_sI, ln_sR, ln_sA, ln_sQ, ln_sL, ln_sD, gI_sR, gI_sA, gI_sQ, gI_sL, gI_sD, gR_sI, gR_sA, gR_sQ, gR_sL, gR_sD, gA_sI, gA_sR, gA_sQ, gA_sL, gA_sD, gQ_sI, gQ_sR, gQ_sA, gQ_sL, gQ_sD, gL_sI, gL_sR, gL_sA, gL_sQ, gL_sD]; assumption) | simp [kd_sI, kd_sR, kd_sA, kd_sQ, kd_sL, kd_sD, ln_sI, ln_sR, ln_sA, ln_sQ, ln_sL, ln_sD, gI_sR, gI_sA, gI_sQ, gI_sL, gI_sD, gR_sI, gR_sA, gR_sQ, gR_sL, gR_sD, gA_sI, gA_sR, gA_sQ, gA_sL, gA_sD, gQ_sI, gQ_sR, gQ_sA, gQ_sL, gQ_sD, gL_sI, gL_sR, gL_sA, gL_sQ, gL_sD, kd_nO, kd_nA, *]) (by first | assumption | with_reducible rfl | (simp only [kd_sI, kd_sR, kd_sA, kd_sQ, kd_sL, kd_sD, ln_sI, ln_sR, ln_sA, ln_sQ, ln_sL, ln_sD, gI_sR, gI_sA, gI_sQ, gI_sL, gI_sD, gR_sI, gR_sA, gR_sQ, gR_sL, gR_sD, gA_sI, gA_sR, gA_sQ, gA_sL, gA_sD, gQ_sI, gQ_sR, gQ_sA, gQ_sL, gQ_sD, gL_sI, gL_sR, gL_sA, gL_sQ, gL_sD]; first | done | assumption | with_reducible rfl) | rfl) ?_
  refine r_sipush (v := nI 354) dX3_isDrum_6 (by decide) ?_
  refine r_iald dX3_isDrum_9 (by first | assumption | (simp only [kd_sI, kd_sR, kd_sA, kd_sQ, kd_sL, kd_sD, ln_sI, ln_sR, ln_sA, ln_sQ, ln_sL, ln_sD, gI_sR, gI_sA, gI_sQ, gI_sL, gI_sD, gR_sI, gR_sA, gR_sQ, gR_sL, gR_sD, gA_sI, gA_sR, gA_sQ, gA_sL, gA_sD, gQ_sI, gQ_sR, gQ_sA, gQ_sL, gQ_sD, gL_sI, gL_sR, gL_sA, gL_sQ, gL_sD]; assumption) | simp [kd_sI, kd_sR, kd_sA, kd_sQ, kd_sL, kd_sD, ln_sI, ln_sR, ln_sA, ln_sQ, ln_sL, ln_sD, gI_sR, gI_sA, gI_sQ, gI_sL, gI_sD, gR_sI, gR_sA, gR_sQ, gR_sL, gR_sD, gA_sI, gA_sR, gA_sQ, gA_sL, gA_sD, gQ_sI, gQ_sR, gQ_sA, gQ_sL, gQ_sD, gL_sI, gL_sR, gL_sA, gL_sQ, gL_sD, kd_nO, kd_nA, *]) (by decide) (by first | assumption | with_reducible rfl | (simp only [kd_sI, kd_sR, kd_sA, kd_sQ, kd_sL, kd_sD, ln_sI, ln_sR, ln_sA, ln_sQ, ln_sL, ln_sD, gI_sR, gI_sA, gI_sQ, gI_sL, gI_sD, gR_sI, gR_sA, gR_sQ, gR_sL, gR_sD, gA_sI, gA_sR, gA_sQ, gA_sL, gA_sD, gQ_sI, gQ_sR, gQ_sA, gQ_sL, gQ_sD, gL_sI, gL_sR, gL_sA, gL_sQ, gL_sD]; first | done | assumption | with_reducible rfl) | rfl) (by first | with_reducible rfl | assumption | (simp only [nI_add, pk_mul, nI_1]; with_reducible rfl)) (by first | assumption | omega) (by first | assumption | omega) (by first | assumption | with_reducible rfl | (simp only [kd_sI, kd_sR, kd_sA, kd_sQ, kd_sL, kd_sD, ln_sI, ln_sR, ln_sA, ln_sQ, ln_sL, ln_sD, gI_sR, gI_sA, gI_sQ, gI_sL, gI_sD, gR_sI, gR_sA, gR_sQ, gR_sL, gR_sD, gA_sI, gA_sR, gA_sQ, gA_sL, gA_sD, gQ_sI, gQ_sR, gQ_sA, gQ_sL, gQ_sD, gL_sI, gL_sR, gL_sA, gL_sQ, gL_sD]; first | done | assumption | with_reducible rfl) | rfl) ?_
  refine r_iconst (v := nI 1) dX3_isDrum_10 (by decide) ?_
  refine r_isub dX3_isDrum_11 ?_
  refine r_callS (As := [_, _, _]) (mc' := 0) (ms' := 0) dX3_isDrum_12 k_X3_90 rfl (by first | assumption | omega) (by first | assumption | omega) (by first | assumption | omega) (Nat.le_of_ble_eq_true rfl) ?_
  refine s_in ?_
  unfold inB at hQ
  generalize decide (nI 0 ≤ v ∧ v ≤ gA H 1068 (ma 68) 354 - nI 1) = b at hQ ⊢
  refine r_ireturn dX3_isDrum_15 rfl (by cases b <;> rfl) ?_
  exact hQ
end Mo1
