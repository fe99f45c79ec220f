set_option maxRecDepth 100000
theorem bool_of {b : Bool} (h : ¬ b = true) : b = false := by simpa using h
theorem nI_lt0 {n : Nat} (h : n < 2147483648) : ¬ nI n < 0 := nI_pos h
section Mo2
variable {G : Gl} {d m : Nat} {ma : Nat → Nat} {Qr : Option AV → AH → Prop} {Qx : String → Nat → AH → Prop} {H : AH}
theorem s_stepIn {c : Nat} {t : Int32} (hd : 2 ≤ d) (hM : MO H m ma) (hB : GB (gA H 1068 (ma 68))) (hc : c < nat (gA H 1068 (ma 68)) 101) (hQ : Qr (some (vI (oI (q_step (gA H 1068 (ma 68)) c t)))) H) : AMet G d 0 0 yX3_stepIn wX3_stepIn H [vR (some m), vI (nI c), vI t] Qr Qx := by
  have e0 := hM.1
  have hc12 : c < 12 := Nat.lt_of_lt_of_le hc (Nat.le_of_lt_succ hB.2.2.1.2)
  obtain ⟨-, ⟨hs1, hs2⟩, -⟩ := hB.2.2.2.2.2 c hc
  generalize hg : gA H 1068 (ma 68) = g at *
  generalize hs : nat g (106 + 21 * c) = s at *
  refine AMet.of (M := mX3_stepIn) (maxL := 4) rfl rfl (Nat.le_of_ble_eq_true rfl) ?_
  show AW mX3_stepIn _ _ _ _ _ _ _ 0 [some (vR (some m)), some (vI (nI c)), some (vI t), none] []
  refine r_iconst (v := nI 0) dX3_stepIn_0 (by decide) ?_
  refine r_istore_n (i := 3) dX3_stepIn_1 rfl (Nat.le_of_ble_eq_true rfl) (by simp only [lset]; rfl) ?_
  have loop : ∀ (k i : Nat), i + k = s → q_step g c t = find9 (fun k => g (109 + 21 * c + k) == t) i k → AW mX3_stepIn G d Qr Qx 0 0 H 2 [some (vR (some m)), some (vI (nI c)), some (vI t), some (vI (nI i))] [] := by
    intro k
    induction k with
    | zero =>
      intro i hi hf
      refine r_iload_n (i := 3) dX3_stepIn_2 rfl rfl ?_
      refine r_aload_n (i := 0) dX3_stepIn_3 rfl rfl ?_
      refine r_iload_n (i := 1) dX3_stepIn_4 rfl rfl ?_
      refine r_iconst (v := nI 4) dX3_stepIn_5 (by decide) ?_
      refine r_callV (As := [_, _]) (mc' := 0) (ms' := 0) dX3_stepIn_6 k_X3_105 rfl (by first | assumption | (simp only [kd_sI, kd_sR, kd_sA, kd_sQ, kd_sL, kd_sD, ln_sI, ln_sR, ln_sA, ln_sQ, ln_sL, ln_sD, gI_sR, gI_sA, gI_sQ, gI_sL, gI_sD, gR_sI, gR_sA, gR_sQ, gR_sL, gR_sD, gA_sI, gA_sR, gA_sQ, gA_sL, gA_sD, gQ_sI, gQ_sR, gQ_sA, gQ_sL, gQ_sD, gL_sI, gL_sR, gL_sA, gL_sQ, gL_sD]; assumption) | simp [kd_sI, kd_sR, kd_sA, kd_sQ, kd_sL, kd_sD, ln_sI, ln_sR, ln_sA, ln_sQ, ln_sL, ln_sD, gI_sR, gI_sA, gI_sQ, gI_sL, gI_sD, gR_sI, gR_sA, gR_sQ, gR_sL, gR_sD, gA_sI, gA_sR, gA_sQ, gA_sL, gA_sD, gQ_sI, gQ_sR, gQ_sA, gQ_sL, gQ_sD, gL_sI, gL_sR, gL_sA, gL_sQ, gL_sD, kd_nO, kd_nA, *]) (T := TX3) (N := 27) rfl (by first | assumption | omega) (by first | assumption | omega) (by first | assumption | omega) (Nat.le_of_ble_eq_true rfl) ?_
      refine s_cableTold (by omega) hM (by omega) ?_
      rw [hg, show 102 + 21 * c + 4 = 106 + 21 * c by omega, hs1]
      refine r_icmp_ge (tgt := 33) dX3_stepIn_9 (by decide) (fun h9 => ?_) (fun h9 => ?_)
      · refine r_iconst (v := -1) dX3_stepIn_33 (by decide) ?_
        refine r_ireturn dX3_stepIn_34 rfl (by first | rfl | assumption | exact vp_nar_int _) ?_
        rw [hf] at hQ
        exact hQ
      · exact absurd (nI_le (by omega) (by omega)) h9
    | succ k ih =>
      intro i hi hf
      refine r_iload_n (i := 3) dX3_stepIn_2 rfl rfl ?_
      refine r_aload_n (i := 0) dX3_stepIn_3 rfl rfl ?_
      refine r_iload_n (i := 1) dX3_stepIn_4 rfl rfl ?_
      refine r_iconst (v := nI 4) dX3_stepIn_5 (by decide) ?_
      refine r_callV (As := [_, _]) (mc' := 0) (ms' := 0) dX3_stepIn_6 k_X3_105 rfl (by first | assumption | (simp only [kd_sI, kd_sR, kd_sA, kd_sQ, kd_sL, kd_sD, ln_sI, ln_sR, ln_sA, ln_sQ, ln_sL, ln_sD, gI_sR, gI_sA, gI_sQ, gI_sL, gI_sD, gR_sI, gR_sA, gR_sQ, gR_sL, gR_sD, gA_sI, gA_sR, gA_sQ, gA_sL, gA_sD, gQ_sI, gQ_sR, gQ_sA, gQ_sL, gQ_sD, gL_sI, gL_sR, gL_sA, gL_sQ, gL_sD]; assumption) | simp [kd_sI, kd_sR, kd_sA, kd_sQ, kd_sL, kd_sD, ln_sI, ln_sR, ln_sA, ln_sQ, ln_sL, ln_sD, gI_sR, gI_sA, gI_sQ, gI_sL, gI_sD, gR_sI, gR_sA, gR_sQ, gR_sL, gR_sD, gA_sI, gA_sR, gA_sQ, gA_sL, gA_sD, gQ_sI, gQ_sR, gQ_sA, gQ_sL, gQ_sD, gL_sI, gL_sR, gL_sA, gL_sQ, gL_sD, kd_nO, kd_nA, *]) (T := TX3) (N := 27) rfl (by first | assumption | omega) (by first | assumption | omega) (by first | assumption | omega) (Nat.le_of_ble_eq_true rfl) ?_
      refine s_cableTold (by omega) hM (by omega) ?_
      rw [hg, show 102 + 21 * c + 4 = 106 + 21 * c by omega, hs1]
      refine r_icmp_ge (tgt := 33) dX3_stepIn_9 (by decide) (fun h9 => ?_) (fun h9 => ?_)
      · exact absurd h9 (nI_ge (by omega) (by omega))
      · refine r_aload_n (i := 0) dX3_stepIn_12 rfl rfl ?_
        refine r_iload_n (i := 1) dX3_stepIn_13 rfl rfl ?_
        refine r_bipush (v := nI 7) dX3_stepIn_14 (by decide) ?_
        refine r_iload_n (i := 3) dX3_stepIn_16 rfl rfl ?_
        refine r_iadd dX3_stepIn_17 ?_
        try simp only [nI_add, pk_mul, nI_1]
        refine r_callV (As := [_, _]) (mc' := 0) (ms' := 0) dX3_stepIn_18 k_X3_105 rfl (by first | assumption | (simp only [kd_sI, kd_sR, kd_sA, kd_sQ, kd_sL, kd_sD, ln_sI, ln_sR, ln_sA, ln_sQ, ln_sL, ln_sD, gI_sR, gI_sA, gI_sQ, gI_sL, gI_sD, gR_sI, gR_sA, gR_sQ, gR_sL, gR_sD, gA_sI, gA_sR, gA_sQ, gA_sL, gA_sD, gQ_sI, gQ_sR, gQ_sA, gQ_sL, gQ_sD, gL_sI, gL_sR, gL_sA, gL_sQ, gL_sD]; assumption) | simp [kd_sI, kd_sR, kd_sA, kd_sQ, kd_sL, kd_sD, ln_sI, ln_sR, ln_sA, ln_sQ, ln_sL, ln_sD, gI_sR, gI_sA, gI_sQ, gI_sL, gI_sD, gR_sI, gR_sA, gR_sQ, gR_sL, gR_sD, gA_sI, gA_sR, gA_sQ, gA_sL, gA_sD, gQ_sI, gQ_sR, gQ_sA, gQ_sL, gQ_sD, gL_sI, gL_sR, gL_sA, gL_sQ, gL_sD, kd_nO, kd_nA, *]) (T := TX3) (N := 27) rfl (by first | assumption | omega) (by first | assumption | omega) (by first | assumption | omega) (Nat.le_of_ble_eq_true rfl) ?_
        refine s_cableTold (by omega) hM (by omega) ?_
        rw [hg, show 102 + 21 * c + (7 + i) = 109 + 21 * c + i by omega]
        refine r_iload_n (i := 2) dX3_stepIn_21 rfl rfl ?_
        refine r_icmp_ne (tgt := 27) dX3_stepIn_22 (by decide) (fun h22 => ?_) (fun h22 => ?_)
        · refine r_iinc dX3_stepIn_27 rfl (by first | exact nI_1 _ | rfl) (by simp only [lset]; rfl) ?_
          refine r_goto (tgt := 2) dX3_stepIn_30 (by decide) ?_
          refine ih (i + 1) (by omega) ?_
          rw [hf, find9, if_neg (by simpa using h22)]
        · refine r_iload_n (i := 3) dX3_stepIn_25 rfl rfl ?_
          refine r_ireturn dX3_stepIn_26 rfl (by first | rfl | assumption | exact vp_nar_int _) ?_
          rw [hf, find9, if_pos (by simpa using h22)] at hQ
          exact hQ
  exact loop s 0 (by omega) (by unfold q_step; rw [hs])
theorem s_setIn {t : Int32} (hd : 3 ≤ d) (hM : MO H m ma) (hB : GB (gA H 1068 (ma 68))) (hQ : Qr (some (vI (q_set (gA H 1068 (ma 68)) t))) H) : AMet G d 0 0 yX3_setIn wX3_setIn H [vR (some m), vI t] Qr Qx := by
  have e0 := hM.1
  obtain ⟨e68a, e68b, e68c⟩ : gR H 68 m = some (ma 68) ∧ kd H (ma 68) = 1068 ∧ ln H (ma 68) = 385 := hM.2 68 (by decide)
  obtain ⟨hs1, hs2⟩ := hB.2.2.1
  unfold q_set at hQ
  obtain ⟨C, hC⟩ : ∃ C, C = nat (gA H 1068 (ma 68)) 101 := ⟨_, rfl⟩
  rw [← hC] at hs1 hs2 hQ
  refine AMet.of (M := mX3_setIn) (maxL := 4) rfl rfl (Nat.le_of_ble_eq_true rfl) ?_
  show AW mX3_setIn _ _ _ _ _ _ _ 0 [some (vR (some m)), some (vI t), none, none] []
  refine r_iconst (v := nI 0) dX3_setIn_0 (by decide) ?_
  refine r_istore_n (i := 2) dX3_setIn_1 rfl (Nat.le_of_ble_eq_true rfl) (by simp only [lset]; rfl) ?_
  refine r_iconst (v := nI 0) dX3_setIn_2 (by decide) ?_
  refine r_istore_n (i := 3) dX3_setIn_3 rfl (Nat.le_of_ble_eq_true rfl) (by simp only [lset]; rfl) ?_
  have loop : ∀ (k i : Nat), i + k = C → AW mX3_setIn G d Qr Qx 0 0 H 4 [some (vR (some m)), some (vI t), some (vI (orN (fun c => if (q_step (gA H 1068 (ma 68)) c t).isSome then nI 1 <<< (nI c &&& 31) else nI 0) i)), some (vI (nI i))] [] := by
    intro k
    induction k with
    | zero =>
      intro i hi
      refine r_iload_n (i := 3) dX3_setIn_4 rfl rfl ?_
      refine r_aload_n (i := 0) dX3_setIn_5 rfl rfl ?_
      refine r_getR dX3_setIn_6 fR_X3_7 (by first | assumption | (simp only [kd_sI, kd_sR, kd_sA, kd_sQ, kd_sL, kd_sD, ln_sI, ln_sR, ln_sA, ln_sQ, ln_sL, ln_sD, gI_sR, gI_sA, gI_sQ, gI_sL, gI_sD, gR_sI, gR_sA, gR_sQ, gR_sL, gR_sD, gA_sI, gA_sR, gA_sQ, gA_sL, gA_sD, gQ_sI, gQ_sR, gQ_sA, gQ_sL, gQ_sD, gL_sI, gL_sR, gL_sA, gL_sQ, gL_sD]; assumption) | simp [kd_sI, kd_sR, kd_sA, kd_sQ, kd_sL, kd_sD, ln_sI, ln_sR, ln_sA, ln_sQ, ln_sL, ln_sD, gI_sR, gI_sA, gI_sQ, gI_sL, gI_sD, gR_sI, gR_sA, gR_sQ, gR_sL, gR_sD, gA_sI, gA_sR, gA_sQ, gA_sL, gA_sD, gQ_sI, gQ_sR, gQ_sA, gQ_sL, gQ_sD, gL_sI, gL_sR, gL_sA, gL_sQ, gL_sD, kd_nO, kd_nA, *]) (by first | assumption | with_reducible rfl | (simp only [kd_sI, kd_sR, kd_sA, kd_sQ, kd_sL, kd_sD, ln_sI, ln_sR, ln_sA, ln_sQ, ln_sL, ln_sD, gI_sR, gI_sA, gI_sQ, gI_sL, gI_sD, gR_sI, gR_sA, gR_sQ, gR_sL, gR_sD, gA_sI, gA_sR, gA_sQ, gA_sL, gA_sD, gQ_sI, gQ_sR, gQ_sA, gQ_sL, gQ_sD, gL_sI, gL_sR, gL_sA, gL_sQ, gL_sD]; first | done | assumption | with_reducible rfl) | rfl) ?_
      refine r_bipush (v := nI 101) dX3_setIn_9 (by decide) ?_
      refine r_iald dX3_setIn_11 (by first | assumption | (simp only [kd_sI, kd_sR, kd_sA, kd_sQ, kd_sL, kd_sD, ln_sI, ln_sR, ln_sA, ln_sQ, ln_sL, ln_sD, gI_sR, gI_sA, gI_sQ, gI_sL, gI_sD, gR_sI, gR_sA, gR_sQ, gR_sL, gR_sD, gA_sI, gA_sR, gA_sQ, gA_sL, gA_sD, gQ_sI, gQ_sR, gQ_sA, gQ_sL, gQ_sD, gL_sI, gL_sR, gL_sA, gL_sQ, gL_sD]; assumption) | simp [kd_sI, kd_sR, kd_sA, kd_sQ, kd_sL, kd_sD, ln_sI, ln_sR, ln_sA, ln_sQ, ln_sL, ln_sD, gI_sR, gI_sA, gI_sQ, gI_sL, gI_sD, gR_sI, gR_sA, gR_sQ, gR_sL, gR_sD, gA_sI, gA_sR, gA_sQ, gA_sL, gA_sD, gQ_sI, gQ_sR, gQ_sA, gQ_sL, gQ_sD, gL_sI, gL_sR, gL_sA, gL_sQ, gL_sD, kd_nO, kd_nA, *]) (by decide) (by first | assumption | with_reducible rfl | (simp only [kd_sI, kd_sR, kd_sA, kd_sQ, kd_sL, kd_sD, ln_sI, ln_sR, ln_sA, ln_sQ, ln_sL, ln_sD, gI_sR, gI_sA, gI_sQ, gI_sL, gI_sD, gR_sI, gR_sA, gR_sQ, gR_sL, gR_sD, gA_sI, gA_sR, gA_sQ, gA_sL, gA_sD, gQ_sI, gQ_sR, gQ_sA, gQ_sL, gQ_sD, gL_sI, gL_sR, gL_sA, gL_sQ, gL_sD]; first | done | assumption | with_reducible rfl) | rfl) (by first | with_reducible rfl | assumption | (simp only [nI_add, pk_mul, nI_1]; with_reducible rfl)) (by first | assumption | omega) (by first | assumption | omega) (by first | assumption | with_reducible rfl | (simp only [kd_sI, kd_sR, kd_sA, kd_sQ, kd_sL, kd_sD, ln_sI, ln_sR, ln_sA, ln_sQ, ln_sL, ln_sD, gI_sR, gI_sA, gI_sQ, gI_sL, gI_sD, gR_sI, gR_sA, gR_sQ, gR_sL, gR_sD, gA_sI, gA_sR, gA_sQ, gA_sL, gA_sD, gQ_sI, gQ_sR, gQ_sA, gQ_sL, gQ_sD, gL_sI, gL_sR, gL_sA, gL_sQ, gL_sD]; first | done | assumption | with_reducible rfl) | rfl) ?_
      refine r_icmp_ge (tgt := 40) dX3_setIn_12 (by decide) (fun h12 => ?_) (fun h12 => ?_)
      · refine r_iload_n (i := 2) dX3_setIn_40 rfl rfl ?_
        refine r_ireturn dX3_setIn_41 rfl (by first | rfl | assumption | exact vp_nar_int _) ?_
        rw [show C = i by omega] at hQ
        exact hQ
      · exact absurd (nI_le (by omega) (by omega)) h12
    | succ k ih =>
      intro i hi
      refine r_iload_n (i := 3) dX3_setIn_4 rfl rfl ?_
      refine r_aload_n (i := 0) dX3_setIn_5 rfl rfl ?_
      refine r_getR dX3_setIn_6 fR_X3_7 (by first | assumption | (simp only [kd_sI, kd_sR, kd_sA, kd_sQ, kd_sL, kd_sD, ln_sI, ln_sR, ln_sA, ln_sQ, ln_sL, ln_sD, gI_sR, gI_sA, gI_sQ, gI_sL, gI_sD, gR_sI, gR_sA, gR_sQ, gR_sL, gR_sD, gA_sI, gA_sR, gA_sQ, gA_sL, gA_sD, gQ_sI, gQ_sR, gQ_sA, gQ_sL, gQ_sD, gL_sI, gL_sR, gL_sA, gL_sQ, gL_sD]; assumption) | simp [kd_sI, kd_sR, kd_sA, kd_sQ, kd_sL, kd_sD, ln_sI, ln_sR, ln_sA, ln_sQ, ln_sL, ln_sD, gI_sR, gI_sA, gI_sQ, gI_sL, gI_sD, gR_sI, gR_sA, gR_sQ, gR_sL, gR_sD, gA_sI, gA_sR, gA_sQ, gA_sL, gA_sD, gQ_sI, gQ_sR, gQ_sA, gQ_sL, gQ_sD, gL_sI, gL_sR, gL_sA, gL_sQ, gL_sD, kd_nO, kd_nA, *]) (by first | assumption | with_reducible rfl | (simp only [kd_sI, kd_sR, kd_sA, kd_sQ, kd_sL, kd_sD, ln_sI, ln_sR, ln_sA, ln_sQ, ln_sL, ln_sD, gI_sR, gI_sA, gI_sQ, gI_sL, gI_sD, gR_sI, gR_sA, gR_sQ, gR_sL, gR_sD, gA_sI, gA_sR, gA_sQ, gA_sL, gA_sD, gQ_sI, gQ_sR, gQ_sA, gQ_sL, gQ_sD, gL_sI, gL_sR, gL_sA, gL_sQ, gL_sD]; first | done | assumption | with_reducible rfl) | rfl) ?_
      refine r_bipush (v := nI 101) dX3_setIn_9 (by decide) ?_
      refine r_iald dX3_setIn_11 (by first | assumption | (simp only [kd_sI, kd_sR, kd_sA, kd_sQ, kd_sL, kd_sD, ln_sI, ln_sR, ln_sA, ln_sQ, ln_sL, ln_sD, gI_sR, gI_sA, gI_sQ, gI_sL, gI_sD, gR_sI, gR_sA, gR_sQ, gR_sL, gR_sD, gA_sI, gA_sR, gA_sQ, gA_sL, gA_sD, gQ_sI, gQ_sR, gQ_sA, gQ_sL, gQ_sD, gL_sI, gL_sR, gL_sA, gL_sQ, gL_sD]; assumption) | simp [kd_sI, kd_sR, kd_sA, kd_sQ, kd_sL, kd_sD, ln_sI, ln_sR, ln_sA, ln_sQ, ln_sL, ln_sD, gI_sR, gI_sA, gI_sQ, gI_sL, gI_sD, gR_sI, gR_sA, gR_sQ, gR_sL, gR_sD, gA_sI, gA_sR, gA_sQ, gA_sL, gA_sD, gQ_sI, gQ_sR, gQ_sA, gQ_sL, gQ_sD, gL_sI, gL_sR, gL_sA, gL_sQ, gL_sD, kd_nO, kd_nA, *]) (by decide) (by first | assumption | with_reducible rfl | (simp only [kd_sI, kd_sR, kd_sA, kd_sQ, kd_sL, kd_sD, ln_sI, ln_sR, ln_sA, ln_sQ, ln_sL, ln_sD, gI_sR, gI_sA, gI_sQ, gI_sL, gI_sD, gR_sI, gR_sA, gR_sQ, gR_sL, gR_sD, gA_sI, gA_sR, gA_sQ, gA_sL, gA_sD, gQ_sI, gQ_sR, gQ_sA, gQ_sL, gQ_sD, gL_sI, gL_sR, gL_sA, gL_sQ, gL_sD]; first | done | assumption | with_reducible rfl) | rfl) (by first | with_reducible rfl | assumption | (simp only [nI_add, pk_mul, nI_1]; with_reducible rfl)) (by first | assumption | omega) (by first | assumption | omega) (by first | assumption | with_reducible rfl | (simp only [kd_sI, kd_sR, kd_sA, kd_sQ, kd_sL, kd_sD, ln_sI, ln_sR, ln_sA, ln_sQ, ln_sL, ln_sD, gI_sR, gI_sA, gI_sQ, gI_sL, gI_sD, gR_sI, gR_sA, gR_sQ, gR_sL, gR_sD, gA_sI, gA_sR, gA_sQ, gA_sL, gA_sD, gQ_sI, gQ_sR, gQ_sA, gQ_sL, gQ_sD, gL_sI, gL_sR, gL_sA, gL_sQ, gL_sD]; first | done | assumption | with_reducible rfl) | rfl) ?_
      refine r_icmp_ge (tgt := 40) dX3_setIn_12 (by decide) (fun h12 => ?_) (fun h12 => ?_)
      · exact absurd h12 (nI_ge (by omega) (by omega))
      · refine r_iload_n (i := 2) dX3_setIn_15 rfl rfl ?_
        refine r_aload_n (i := 0) dX3_setIn_16 rfl rfl ?_
        refine r_iload_n (i := 3) dX3_setIn_17 rfl rfl ?_
        refine r_iload_n (i := 1) dX3_setIn_18 rfl rfl ?_
        refine r_callV (As := [_, _]) (mc' := 0) (ms' := 0) dX3_setIn_19 k_X3_108 rfl (by first | assumption | (simp only [kd_sI, kd_sR, kd_sA, kd_sQ, kd_sL, kd_sD, ln_sI, ln_sR, ln_sA, ln_sQ, ln_sL, ln_sD, gI_sR, gI_sA, gI_sQ, gI_sL, gI_sD, gR_sI, gR_sA, gR_sQ, gR_sL, gR_sD, gA_sI, gA_sR, gA_sQ, gA_sL, gA_sD, gQ_sI, gQ_sR, gQ_sA, gQ_sL, gQ_sD, gL_sI, gL_sR, gL_sA, gL_sQ, gL_sD]; assumption) | simp [kd_sI, kd_sR, kd_sA, kd_sQ, kd_sL, kd_sD, ln_sI, ln_sR, ln_sA, ln_sQ, ln_sL, ln_sD, gI_sR, gI_sA, gI_sQ, gI_sL, gI_sD, gR_sI, gR_sA, gR_sQ, gR_sL, gR_sD, gA_sI, gA_sR, gA_sQ, gA_sL, gA_sD, gQ_sI, gQ_sR, gQ_sA, gQ_sL, gQ_sD, gL_sI, gL_sR, gL_sA, gL_sQ, gL_sD, kd_nO, kd_nA, *]) (T := TX3) (N := 27) rfl (by first | assumption | omega) (by first | assumption | omega) (by first | assumption | omega) (Nat.le_of_ble_eq_true rfl) ?_
        refine s_stepIn (by omega) hM hB (by omega) ?_
        have nx := ih (i + 1) (by omega)
        rw [orN] at nx
        cases hq : q_step (gA H 1068 (ma 68)) i t with
        | none =>
          rw [hq] at nx
          refine r_if_lt (tgt := 31) dX3_setIn_22 (by decide) (fun h22 => ?_) (fun h22 => ?_)
          · refine r_iconst (v := nI 0) dX3_setIn_31 (by decide) ?_
            refine r_ior dX3_setIn_32 ?_
            refine r_istore_n (i := 2) dX3_setIn_33 rfl (Nat.le_of_ble_eq_true rfl) (by simp only [lset]; rfl) ?_
            refine r_iinc dX3_setIn_34 rfl (by first | exact nI_1 _ | rfl) (by simp only [lset]; rfl) ?_
            refine r_goto (tgt := 4) dX3_setIn_37 (by decide) ?_
            exact nx
          · exact absurd (by decide) h22
        | some j =>
          rw [hq] at nx
          have hj := (find9_lt hq).2.1
          have hsj := (hB.2.2.2.2.2 i (by omega)).2.1.2
          refine r_if_lt (tgt := 31) dX3_setIn_22 (by decide) (fun h22 => ?_) (fun h22 => ?_)
          · exact absurd h22 (nI_lt0 (by omega))
          · refine r_iconst (v := nI 1) dX3_setIn_25 (by decide) ?_
            refine r_iload_n (i := 3) dX3_setIn_26 rfl rfl ?_
            refine r_ishl dX3_setIn_27 ?_
            refine r_goto (tgt := 32) dX3_setIn_28 (by decide) ?_
            refine r_ior dX3_setIn_32 ?_
            refine r_istore_n (i := 2) dX3_setIn_33 rfl (Nat.le_of_ble_eq_true rfl) (by simp only [lset]; rfl) ?_
            refine r_iinc dX3_setIn_34 rfl (by first | exact nI_1 _ | rfl) (by simp only [lset]; rfl) ?_
            refine r_goto (tgt := 4) dX3_setIn_37 (by decide) ?_
            exact nx
  exact loop C 0 (by omega)
theorem s_roomOf {t : Nat} (hd : 1 ≤ d) (hM : MO H m ma) (hB : GB (gA H 1068 (ma 68))) (ht : t < nat (gA H 1068 (ma 68)) 40) (hQ : Qr (some (vI (q_room (gA H 1068 (ma 68)) t))) H) : AMet G d 0 0 yX3_roomOf wX3_roomOf H [vR (some m), vI (nI t)] Qr Qx := by
  have e0 := hM.1
  have ht12 : t < 12 := Nat.lt_of_lt_of_le ht (Nat.le_of_lt_succ hB.2.1.2)
  obtain ⟨⟨hk1, hk2⟩, hk3⟩ := hB.2.2.2.2.1 t ht
  refine AMet.of (M := mX3_roomOf) (maxL := 2) rfl rfl (Nat.le_of_ble_eq_true rfl) ?_
  show AW mX3_roomOf _ _ _ _ _ _ _ 0 [some (vR (some m)), some (vI (nI t))] []
  refine r_aload_n (i := 0) dX3_roomOf_0 rfl rfl ?_
  refine r_iload_n (i := 1) dX3_roomOf_1 rfl rfl ?_
  refine r_iconst (v := nI 3) dX3_roomOf_2 (by decide) ?_
  refine r_callV (As := [_, _]) (mc' := 0) (ms' := 0) dX3_roomOf_3 k_X3_121 rfl (by first | assumption | (simp only [kd_sI, kd_sR, kd_sA, kd_sQ, kd_sL, kd_sD, ln_sI, ln_sR, ln_sA, ln_sQ, ln_sL, ln_sD, gI_sR, gI_sA, gI_sQ, gI_sL, gI_sD, gR_sI, gR_sA, gR_sQ, gR_sL, gR_sD, gA_sI, gA_sR, gA_sQ, gA_sL, gA_sD, gQ_sI, gQ_sR, gQ_sA, gQ_sL, gQ_sD, gL_sI, gL_sR, gL_sA, gL_sQ, gL_sD]; assumption) | simp [kd_sI, kd_sR, kd_sA, kd_sQ, kd_sL, kd_sD, ln_sI, ln_sR, ln_sA, ln_sQ, ln_sL, ln_sD, gI_sR, gI_sA, gI_sQ, gI_sL, gI_sD, gR_sI, gR_sA, gR_sQ, gR_sL, gR_sD, gA_sI, gA_sR, gA_sQ, gA_sL, gA_sD, gQ_sI, gQ_sR, gQ_sA, gQ_sL, gQ_sD, gL_sI, gL_sR, gL_sA, gL_sQ, gL_sD, kd_nO, kd_nA, *]) (T := TX3) (N := 27) rfl (by first | assumption | omega) (by first | assumption | omega) (by first | assumption | omega) (Nat.le_of_ble_eq_true rfl) ?_
  refine s_trayTold hM (by omega) ?_
  refine r_aload_n (i := 0) dX3_roomOf_6 rfl rfl ?_
  refine r_iload_n (i := 1) dX3_roomOf_7 rfl rfl ?_
  refine r_iconst (v := nI 4) dX3_roomOf_8 (by decide) ?_
  refine r_callV (As := [_, _]) (mc' := 0) (ms' := 0) dX3_roomOf_9 k_X3_121 rfl (by first | assumption | (simp only [kd_sI, kd_sR, kd_sA, kd_sQ, kd_sL, kd_sD, ln_sI, ln_sR, ln_sA, ln_sQ, ln_sL, ln_sD, gI_sR, gI_sA, gI_sQ, gI_sL, gI_sD, gR_sI, gR_sA, gR_sQ, gR_sL, gR_sD, gA_sI, gA_sR, gA_sQ, gA_sL, gA_sD, gQ_sI, gQ_sR, gQ_sA, gQ_sL, gQ_sD, gL_sI, gL_sR, gL_sA, gL_sQ, gL_sD]; assumption) | simp [kd_sI, kd_sR, kd_sA, kd_sQ, kd_sL, kd_sD, ln_sI, ln_sR, ln_sA, ln_sQ, ln_sL, ln_sD, gI_sR, gI_sA, gI_sQ, gI_sL, gI_sD, gR_sI, gR_sA, gR_sQ, gR_sL, gR_sD, gA_sI, gA_sR, gA_sQ, gA_sL, gA_sD, gQ_sI, gQ_sR, gQ_sA, gQ_sL, gQ_sD, gL_sI, gL_sR, gL_sA, gL_sQ, gL_sD, kd_nO, kd_nA, *]) (T := TX3) (N := 27) rfl (by first | assumption | omega) (by first | assumption | omega) (by first | assumption | omega) (Nat.le_of_ble_eq_true rfl) ?_
  refine s_trayTold hM (by omega) ?_
  refine r_idiv dX3_roomOf_12 ?_ ?_
  · rw [show 41 + 5 * t + 4 = 45 + 5 * t by omega, hk1]
    exact nI_ne0 hk3 (by omega)
  refine r_ireturn dX3_roomOf_13 rfl (by first | rfl | assumption | exact vp_nar_int _) ?_
  rw [show 41 + 5 * t + 4 = 45 + 5 * t by omega, show 41 + 5 * t + 3 = 44 + 5 * t by omega]
  exact hQ
theorem s_keptOf {t : Nat} (hd : 2 ≤ d) (hM : MO H m ma) (hB : GB (gA H 1068 (ma 68))) (ht : t < nat (gA H 1068 (ma 68)) 40) (hQ : Qr (some (vI (q_kept (gA H 1068 (ma 68)) t))) H) : AMet G d 0 0 yX3_keptOf wX3_keptOf H [vR (some m), vI (nI t)] Qr Qx := by
  have e0 := hM.1
  obtain ⟨e68a, e68b, e68c⟩ : gR H 68 m = some (ma 68) ∧ kd H (ma 68) = 1068 ∧ ln H (ma 68) = 385 := hM.2 68 (by decide)
  refine AMet.of (M := mX3_keptOf) (maxL := 2) rfl rfl (Nat.le_of_ble_eq_true rfl) ?_
  show AW mX3_keptOf _ _ _ _ _ _ _ 0 [some (vR (some m)), some (vI (nI t))] []
  refine r_aload_n (i := 0) dX3_keptOf_0 rfl rfl ?_
  refine r_iload_n (i := 1) dX3_keptOf_1 rfl rfl ?_
  refine r_callV (As := [_]) (mc' := 0) (ms' := 0) dX3_keptOf_2 k_X3_124 rfl (by first | assumption | (simp only [kd_sI, kd_sR, kd_sA, kd_sQ, kd_sL, kd_sD, ln_sI, ln_sR, ln_sA, ln_sQ, ln_sL, ln_sD, gI_sR, gI_sA, gI_sQ, gI_sL, gI_sD, gR_sI, gR_sA, gR_sQ, gR_sL, gR_sD, gA_sI, gA_sR, gA_sQ, gA_sL, gA_sD, gQ_sI, gQ_sR, gQ_sA, gQ_sL, gQ_sD, gL_sI, gL_sR, gL_sA, gL_sQ, gL_sD]; assumption) | simp [kd_sI, kd_sR, kd_sA, kd_sQ, kd_sL, kd_sD, ln_sI, ln_sR, ln_sA, ln_sQ, ln_sL, ln_sD, gI_sR, gI_sA, gI_sQ, gI_sL, gI_sD, gR_sI, gR_sA, gR_sQ, gR_sL, gR_sD, gA_sI, gA_sR, gA_sQ, gA_sL, gA_sD, gQ_sI, gQ_sR, gQ_sA, gQ_sL, gQ_sD, gL_sI, gL_sR, gL_sA, gL_sQ, gL_sD, kd_nO, kd_nA, *]) (T := TX3) (N := 27) rfl (by first | assumption | omega) (by first | assumption | omega) (by first | assumption | omega) (Nat.le_of_ble_eq_true rfl) ?_
  refine s_roomOf (by omega) hM hB ht ?_
  refine r_aload_n (i := 0) dX3_keptOf_5 rfl rfl ?_
  refine r_getR dX3_keptOf_6 fR_X3_7 (by first | assumption | (simp only [kd_sI, kd_sR, kd_sA, kd_sQ, kd_sL, kd_sD, ln_sI, ln_sR, ln_sA, ln_sQ, ln_sL, ln_sD, gI_sR, gI_sA, gI_sQ, gI_sL, gI_sD, gR_sI, gR_sA, gR_sQ, gR_sL, gR_sD, gA_sI, gA_sR, gA_sQ, gA_sL, gA_sD, gQ_sI, gQ_sR, gQ_sA, gQ_sL, gQ_sD, gL_sI, gL_sR, gL_sA, gL_sQ, gL_sD]; assumption) | simp [kd_sI, kd_sR, kd_sA, kd_sQ, kd_sL, kd_sD, ln_sI, ln_sR, ln_sA, ln_sQ, ln_sL, ln_sD, gI_sR, gI_sA, gI_sQ, gI_sL, gI_sD, gR_sI, gR_sA, gR_sQ, gR_sL, gR_sD, gA_sI, gA_sR, gA_sQ, gA_sL, gA_sD, gQ_sI, gQ_sR, gQ_sA, gQ_sL, gQ_sD, gL_sI, gL_sR, gL_sA, gL_sQ, gL_sD, kd_nO, kd_nA, *]) (by first | assumption | with_reducible rfl | (simp only [kd_sI, kd_sR, kd_sA, kd_sQ, kd_sL, kd_sD, ln_sI, ln_sR, ln_sA, ln_sQ, ln_sL, ln_sD, gI_sR, gI_sA, gI_sQ, gI_sL, gI_sD, gR_sI, gR_sA, gR_sQ, gR_sL, gR_sD, gA_sI, gA_sR, gA_sQ, gA_sL, gA_sD, gQ_sI, gQ_sR, gQ_sA, gQ_sL, gQ_sD, gL_sI, gL_sR, gL_sA, gL_sQ, gL_sD]; first | done | assumption | with_reducible rfl) | rfl) ?_
  refine r_iconst (v := nI 0) dX3_keptOf_9 (by decide) ?_
  refine r_iald dX3_keptOf_10 (by first | assumption | (simp only [kd_sI, kd_sR, kd_sA, kd_sQ, kd_sL, kd_sD, ln_sI, ln_sR, ln_sA, ln_sQ, ln_sL, ln_sD, gI_sR, gI_sA, gI_sQ, gI_sL, gI_sD, gR_sI, gR_sA, gR_sQ, gR_sL, gR_sD, gA_sI, gA_sR, gA_sQ, gA_sL, gA_sD, gQ_sI, gQ_sR, gQ_sA, gQ_sL, gQ_sD, gL_sI, gL_sR, gL_sA, gL_sQ, gL_sD]; assumption) | simp [kd_sI, kd_sR, kd_sA, kd_sQ, kd_sL, kd_sD, ln_sI, ln_sR, ln_sA, ln_sQ, ln_sL, ln_sD, gI_sR, gI_sA, gI_sQ, gI_sL, gI_sD, gR_sI, gR_sA, gR_sQ, gR_sL, gR_sD, gA_sI, gA_sR, gA_sQ, gA_sL, gA_sD, gQ_sI, gQ_sR, gQ_sA, gQ_sL, gQ_sD, gL_sI, gL_sR, gL_sA, gL_sQ, gL_sD, kd_nO, kd_nA, *]) (by decide) (by first | assumption | with_reducible rfl | (simp only [kd_sI, kd_sR, kd_sA, kd_sQ, kd_sL, kd_sD, ln_sI, ln_sR, ln_sA, ln_sQ, ln_sL, ln_sD, gI_sR, gI_sA, gI_sQ, gI_sL, gI_sD, gR_sI, gR_sA, gR_sQ, gR_sL, gR_sD, gA_sI, gA_sR, gA_sQ, gA_sL, gA_sD, gQ_sI, gQ_sR, gQ_sA, gQ_sL, gQ_sD, gL_sI, gL_sR, gL_sA, gL_sQ, gL_sD]; first | done | assumption | with_reducible rfl) | rfl) (by first | with_reducible rfl | assumption | (simp only [nI_add, pk_mul, nI_1]; with_reducible rfl)) (by first | assumption | omega) (by first | assumption | omega) (by first | assumption | with_reducible rfl | (simp only [kd_sI, kd_sR, kd_sA, kd_sQ, kd_sL, kd_sD, ln_sI, ln_sR, ln_sA, ln_sQ, ln_sL, ln_sD, gI_sR, gI_sA, gI_sQ, gI_sL, gI_sD, gR_sI, gR_sA, gR_sQ, gR_sL, gR_sD, gA_sI, gA_sR, gA_sQ, gA_sL, gA_sD, gQ_sI, gQ_sR, gQ_sA, gQ_sL, gQ_sD, gL_sI, gL_sR, gL_sA, gL_sQ, gL_sD]; first | done | assumption | with_reducible rfl) | rfl) ?_
  refine r_imul dX3_keptOf_11 ?_
  refine r_bipush (v := nI 99) dX3_keptOf_12 (by decide) ?_
  refine r_iadd dX3_keptOf_14 ?_
  refine r_bipush (v := nI 100) dX3_keptOf_15 (by decide) ?_
  refine r_idiv dX3_keptOf_17 ?_ ?_
  · decide
  refine r_ireturn dX3_keptOf_18 rfl (by first | rfl | assumption | exact vp_nar_int _) ?_
  exact hQ
theorem s_areaIn {t k : Int32} (hd : 3 ≤ d) (hM : MO H m ma) (hB : GB (gA H 1068 (ma 68))) (hQ : Qr (some (vI (q_area (gA H 1068 (ma 68)) t k))) H) : AMet G d 0 0 yX3_areaIn wX3_areaIn H [vR (some m), vI t, vI k] Qr Qx := by
  have e0 := hM.1
  obtain ⟨e68a, e68b, e68c⟩ : gR H 68 m = some (ma 68) ∧ kd H (ma 68) = 1068 ∧ ln H (ma 68) = 385 := hM.2 68 (by decide)
  obtain ⟨hs1, hs2⟩ := hB.2.2.1
  unfold q_area at hQ
  obtain ⟨C, hC⟩ : ∃ C, C = nat (gA H 1068 (ma 68)) 101 := ⟨_, rfl⟩
  rw [← hC] at hs1 hs2 hQ
  refine AMet.of (M := mX3_areaIn) (maxL := 6) rfl rfl (Nat.le_of_ble_eq_true rfl) ?_
  show AW mX3_areaIn _ _ _ _ _ _ _ 0 [some (vR (some m)), some (vI t), some (vI k), none, none, none] []
  refine r_iconst (v := nI 0) dX3_areaIn_0 (by decide) ?_
  refine r_istore_n (i := 3) dX3_areaIn_1 rfl (Nat.le_of_ble_eq_true rfl) (by simp only [lset]; rfl) ?_
  refine r_iconst (v := nI 0) dX3_areaIn_2 (by decide) ?_
  refine r_istore dX3_areaIn_3 (Nat.le_of_ble_eq_true rfl) (by simp only [lset]; rfl) ?_
  have loop : ∀ (n i : Nat) (x5 : Option AV), i + n = C → AW mX3_areaIn G d Qr Qx 0 0 H 5 [some (vR (some m)), some (vI t), some (vI k), some (vI (sumN (fun c => if q_in (gA H 1068 (ma 68)) t k c then gA H 1068 (ma 68) (9 + 6 * nat (gA H 1068 (ma 68)) (102 + 21 * c)) else nI 0) i)), some (vI (nI i)), x5] [] := by
    intro n
    induction n with
    | zero =>
      intro i x5 hi
      refine r_iload dX3_areaIn_5 rfl ?_
      refine r_aload_n (i := 0) dX3_areaIn_7 rfl rfl ?_
      refine r_getR dX3_areaIn_8 fR_X3_7 (by first | assumption | (simp only [kd_sI, kd_sR, kd_sA, kd_sQ, kd_sL, kd_sD, ln_sI, ln_sR, ln_sA, ln_sQ, ln_sL, ln_sD, gI_sR, gI_sA, gI_sQ, gI_sL, gI_sD, gR_sI, gR_sA, gR_sQ, gR_sL, gR_sD, gA_sI, gA_sR, gA_sQ, gA_sL, gA_sD, gQ_sI, gQ_sR, gQ_sA, gQ_sL, gQ_sD, gL_sI, gL_sR, gL_sA, gL_sQ, gL_sD]; assumption) | simp [kd_sI, kd_sR, kd_sA, kd_sQ, kd_sL, kd_sD, ln_sI, ln_sR, ln_sA, ln_sQ, ln_sL, ln_sD, gI_sR, gI_sA, gI_sQ, gI_sL, gI_sD, gR_sI, gR_sA, gR_sQ, gR_sL, gR_sD, gA_sI, gA_sR, gA_sQ, gA_sL, gA_sD, gQ_sI, gQ_sR, gQ_sA, gQ_sL, gQ_sD, gL_sI, gL_sR, gL_sA, gL_sQ, gL_sD, kd_nO, kd_nA, *]) (by first | assumption | with_reducible rfl | (simp only [kd_sI, kd_sR, kd_sA, kd_sQ, kd_sL, kd_sD, ln_sI, ln_sR, ln_sA, ln_sQ, ln_sL, ln_sD, gI_sR, gI_sA, gI_sQ, gI_sL, gI_sD, gR_sI, gR_sA, gR_sQ, gR_sL, gR_sD, gA_sI, gA_sR, gA_sQ, gA_sL, gA_sD, gQ_sI, gQ_sR, gQ_sA, gQ_sL, gQ_sD, gL_sI, gL_sR, gL_sA, gL_sQ, gL_sD]; first | done | assumption | with_reducible rfl) | rfl) ?_
      refine r_bipush (v := nI 101) dX3_areaIn_11 (by decide) ?_
      refine r_iald dX3_areaIn_13 (by first | assumption | (simp only [kd_sI, kd_sR, kd_sA, kd_sQ, kd_sL, kd_sD, ln_sI, ln_sR, ln_sA, ln_sQ, ln_sL, ln_sD, gI_sR, gI_sA, gI_sQ, gI_sL, gI_sD, gR_sI, gR_sA, gR_sQ, gR_sL, gR_sD, gA_sI, gA_sR, gA_sQ, gA_sL, gA_sD, gQ_sI, gQ_sR, gQ_sA, gQ_sL, gQ_sD, gL_sI, gL_sR, gL_sA, gL_sQ, gL_sD]; assumption) | simp [kd_sI, kd_sR, kd_sA, kd_sQ, kd_sL, kd_sD, ln_sI, ln_sR, ln_sA, ln_sQ, ln_sL, ln_sD, gI_sR, gI_sA, gI_sQ, gI_sL, gI_sD, gR_sI, gR_sA, gR_sQ, gR_sL, gR_sD, gA_sI, gA_sR, gA_sQ, gA_sL, gA_sD, gQ_sI, gQ_sR, gQ_sA, gQ_sL, gQ_sD, gL_sI, gL_sR, gL_sA, gL_sQ, gL_sD, kd_nO, kd_nA, *]) (by decide) (by first | assumption | with_reducible rfl | (simp only [kd_sI, kd_sR, kd_sA, kd_sQ, kd_sL, kd_sD, ln_sI, ln_sR, ln_sA, ln_sQ, ln_sL, ln_sD, gI_sR, gI_sA, gI_sQ, gI_sL, gI_sD, gR_sI, gR_sA, gR_sQ, gR_sL, gR_sD, gA_sI, gA_sR, gA_sQ, gA_sL, gA_sD, gQ_sI, gQ_sR, gQ_sA, gQ_sL, gQ_sD, gL_sI, gL_sR, gL_sA, gL_sQ, gL_sD]; first | done | assumption | with_reducible rfl) | rfl) (by first | with_reducible rfl | assumption | (simp only [nI_add, pk_mul, nI_1]; with_reducible rfl)) (by first | assumption | omega) (by first | assumption | omega) (by first | assumption | with_reducible rfl | (simp only [kd_sI, kd_sR, kd_sA, kd_sQ, kd_sL, kd_sD, ln_sI, ln_sR, ln_sA, ln_sQ, ln_sL, ln_sD, gI_sR, gI_sA, gI_sQ, gI_sL, gI_sD, gR_sI, gR_sA, gR_sQ, gR_sL, gR_sD, gA_sI, gA_sR, gA_sQ, gA_sL, gA_sD, gQ_sI, gQ_sR, gQ_sA, gQ_sL, gQ_sD, gL_sI, gL_sR, gL_sA, gL_sQ, gL_sD]; first | done | assumption | with_reducible rfl) | rfl) ?_
      refine r_icmp_ge (tgt := 70) dX3_areaIn_14 (by decide) (fun h14 => ?_) (fun h14 => ?_)
      · refine r_iload_n (i := 3) dX3_areaIn_70 rfl rfl ?_
        refine r_ireturn dX3_areaIn_71 rfl (by first | rfl | assumption | exact vp_nar_int _) ?_
        rw [show C = i by omega] at hQ
        exact hQ
      · exact absurd (nI_le (by omega) (by omega)) h14
    | succ n ih =>
      intro i x5 hi
      refine r_iload dX3_areaIn_5 rfl ?_
      refine r_aload_n (i := 0) dX3_areaIn_7 rfl rfl ?_
      refine r_getR dX3_areaIn_8 fR_X3_7 (by first | assumption | (simp only [kd_sI, kd_sR, kd_sA, kd_sQ, kd_sL, kd_sD, ln_sI, ln_sR, ln_sA, ln_sQ, ln_sL, ln_sD, gI_sR, gI_sA, gI_sQ, gI_sL, gI_sD, gR_sI, gR_sA, gR_sQ, gR_sL, gR_sD, gA_sI, gA_sR, gA_sQ, gA_sL, gA_sD, gQ_sI, gQ_sR, gQ_sA, gQ_sL, gQ_sD, gL_sI, gL_sR, gL_sA, gL_sQ, gL_sD]; assumption) | simp [kd_sI, kd_sR, kd_sA, kd_sQ, kd_sL, kd_sD, ln_sI, ln_sR, ln_sA, ln_sQ, ln_sL, ln_sD, gI_sR, gI_sA, gI_sQ, gI_sL, gI_sD, gR_sI, gR_sA, gR_sQ, gR_sL, gR_sD, gA_sI, gA_sR, gA_sQ, gA_sL, gA_sD, gQ_sI, gQ_sR, gQ_sA, gQ_sL, gQ_sD, gL_sI, gL_sR, gL_sA, gL_sQ, gL_sD, kd_nO, kd_nA, *]) (by first | assumption | with_reducible rfl | (simp only [kd_sI, kd_sR, kd_sA, kd_sQ, kd_sL, kd_sD, ln_sI, ln_sR, ln_sA, ln_sQ, ln_sL, ln_sD, gI_sR, gI_sA, gI_sQ, gI_sL, gI_sD, gR_sI, gR_sA, gR_sQ, gR_sL, gR_sD, gA_sI, gA_sR, gA_sQ, gA_sL, gA_sD, gQ_sI, gQ_sR, gQ_sA, gQ_sL, gQ_sD, gL_sI, gL_sR, gL_sA, gL_sQ, gL_sD]; first | done | assumption | with_reducible rfl) | rfl) ?_
      refine r_bipush (v := nI 101) dX3_areaIn_11 (by decide) ?_
      refine r_iald dX3_areaIn_13 (by first | assumption | (simp only [kd_sI, kd_sR, kd_sA, kd_sQ, kd_sL, kd_sD, ln_sI, ln_sR, ln_sA, ln_sQ, ln_sL, ln_sD, gI_sR, gI_sA, gI_sQ, gI_sL, gI_sD, gR_sI, gR_sA, gR_sQ, gR_sL, gR_sD, gA_sI, gA_sR, gA_sQ, gA_sL, gA_sD, gQ_sI, gQ_sR, gQ_sA, gQ_sL, gQ_sD, gL_sI, gL_sR, gL_sA, gL_sQ, gL_sD]; assumption) | simp [kd_sI, kd_sR, kd_sA, kd_sQ, kd_sL, kd_sD, ln_sI, ln_sR, ln_sA, ln_sQ, ln_sL, ln_sD, gI_sR, gI_sA, gI_sQ, gI_sL, gI_sD, gR_sI, gR_sA, gR_sQ, gR_sL, gR_sD, gA_sI, gA_sR, gA_sQ, gA_sL, gA_sD, gQ_sI, gQ_sR, gQ_sA, gQ_sL, gQ_sD, gL_sI, gL_sR, gL_sA, gL_sQ, gL_sD, kd_nO, kd_nA, *]) (by decide) (by first | assumption | with_reducible rfl | (simp only [kd_sI, kd_sR, kd_sA, kd_sQ, kd_sL, kd_sD, ln_sI, ln_sR, ln_sA, ln_sQ, ln_sL, ln_sD, gI_sR, gI_sA, gI_sQ, gI_sL, gI_sD, gR_sI, gR_sA, gR_sQ, gR_sL, gR_sD, gA_sI, gA_sR, gA_sQ, gA_sL, gA_sD, gQ_sI, gQ_sR, gQ_sA, gQ_sL, gQ_sD, gL_sI, gL_sR, gL_sA, gL_sQ, gL_sD]; first | done | assumption | with_reducible rfl) | rfl) (by first | with_reducible rfl | assumption | (simp only [nI_add, pk_mul, nI_1]; with_reducible rfl)) (by first | assumption | omega) (by first | assumption | omega) (by first | assumption | with_reducible rfl | (simp only [kd_sI, kd_sR, kd_sA, kd_sQ, kd_sL, kd_sD, ln_sI, ln_sR, ln_sA, ln_sQ, ln_sL, ln_sD, gI_sR, gI_sA, gI_sQ, gI_sL, gI_sD, gR_sI, gR_sA, gR_sQ, gR_sL, gR_sD, gA_sI, gA_sR, gA_sQ, gA_sL, gA_sD, gQ_sI, gQ_sR, gQ_sA, gQ_sL, gQ_sD, gL_sI, gL_sR, gL_sA, gL_sQ, gL_sD]; first | done | assumption | with_reducible rfl) | rfl) ?_
      refine r_icmp_ge (tgt := 70) dX3_areaIn_14 (by decide) (fun h14 => ?_) (fun h14 => ?_)
      · exact absurd h14 (nI_ge (by omega) (by omega))
      · refine r_aload_n (i := 0) dX3_areaIn_17 rfl rfl ?_
        refine r_iload dX3_areaIn_18 rfl ?_
        refine r_iload_n (i := 1) dX3_areaIn_20 rfl rfl ?_
        refine r_callV (As := [_, _]) (mc' := 0) (ms' := 0) dX3_areaIn_21 k_X3_108 rfl (by first | assumption | (simp only [kd_sI, kd_sR, kd_sA, kd_sQ, kd_sL, kd_sD, ln_sI, ln_sR, ln_sA, ln_sQ, ln_sL, ln_sD, gI_sR, gI_sA, gI_sQ, gI_sL, gI_sD, gR_sI, gR_sA, gR_sQ, gR_sL, gR_sD, gA_sI, gA_sR, gA_sQ, gA_sL, gA_sD, gQ_sI, gQ_sR, gQ_sA, gQ_sL, gQ_sD, gL_sI, gL_sR, gL_sA, gL_sQ, gL_sD]; assumption) | simp [kd_sI, kd_sR, kd_sA, kd_sQ, kd_sL, kd_sD, ln_sI, ln_sR, ln_sA, ln_sQ, ln_sL, ln_sD, gI_sR, gI_sA, gI_sQ, gI_sL, gI_sD, gR_sI, gR_sA, gR_sQ, gR_sL, gR_sD, gA_sI, gA_sR, gA_sQ, gA_sL, gA_sD, gQ_sI, gQ_sR, gQ_sA, gQ_sL, gQ_sD, gL_sI, gL_sR, gL_sA, gL_sQ, gL_sD, kd_nO, kd_nA, *]) (T := TX3) (N := 27) rfl (by first | assumption | omega) (by first | assumption | omega) (by first | assumption | omega) (Nat.le_of_ble_eq_true rfl) ?_
        refine s_stepIn (by omega) hM hB (by omega) ?_
        refine r_istore dX3_areaIn_24 (Nat.le_of_ble_eq_true rfl) (by simp only [lset]; rfl) ?_
        refine r_iload_n (i := 3) dX3_areaIn_26 rfl rfl ?_
        refine r_iload dX3_areaIn_27 rfl ?_
        have nx := fun x => ih (i + 1) x (by omega)
        rw [sumN, q_in] at nx
        cases hq : q_step (gA H 1068 (ma 68)) i t with
        | none =>
          rw [hq] at nx
          refine r_if_lt (tgt := 61) dX3_areaIn_29 (by decide) (fun h29 => ?_) (fun h29 => ?_)
          · refine r_iconst (v := nI 0) dX3_areaIn_61 (by decide) ?_
            refine r_iadd dX3_areaIn_62 ?_
            refine r_istore_n (i := 3) dX3_areaIn_63 rfl (Nat.le_of_ble_eq_true rfl) (by simp only [lset]; rfl) ?_
            refine r_iinc dX3_areaIn_64 rfl (by first | exact nI_1 _ | rfl) (by simp only [lset]; rfl) ?_
            refine r_goto (tgt := 5) dX3_areaIn_67 (by decide) ?_
            exact nx _
          · exact absurd (by decide) h29
        | some j =>
          rw [hq] at nx
          dsimp only at nx
          have hj := (find9_lt hq).2.1
          obtain ⟨⟨ht1, ht2⟩, ⟨-, hsj⟩, -⟩ := hB.2.2.2.2.2 i (by omega)
          have hT6 := hB.1.2
          simp only [oI]
          refine r_if_lt (tgt := 61) dX3_areaIn_29 (by decide) (fun h29 => ?_) (fun h29 => ?_)
          · exact absurd h29 (nI_lt0 (by omega))
          · refine r_aload_n (i := 0) dX3_areaIn_32 rfl rfl ?_
            refine r_iload dX3_areaIn_33 rfl ?_
            refine r_bipush (v := nI 14) dX3_areaIn_35 (by decide) ?_
            refine r_iload dX3_areaIn_37 rfl ?_
            refine r_iadd dX3_areaIn_39 ?_
            try simp only [nI_add, pk_mul, nI_1]
            refine r_callV (As := [_, _]) (mc' := 0) (ms' := 0) dX3_areaIn_40 k_X3_105 rfl (by first | assumption | (simp only [kd_sI, kd_sR, kd_sA, kd_sQ, kd_sL, kd_sD, ln_sI, ln_sR, ln_sA, ln_sQ, ln_sL, ln_sD, gI_sR, gI_sA, gI_sQ, gI_sL, gI_sD, gR_sI, gR_sA, gR_sQ, gR_sL, gR_sD, gA_sI, gA_sR, gA_sQ, gA_sL, gA_sD, gQ_sI, gQ_sR, gQ_sA, gQ_sL, gQ_sD, gL_sI, gL_sR, gL_sA, gL_sQ, gL_sD]; assumption) | simp [kd_sI, kd_sR, kd_sA, kd_sQ, kd_sL, kd_sD, ln_sI, ln_sR, ln_sA, ln_sQ, ln_sL, ln_sD, gI_sR, gI_sA, gI_sQ, gI_sL, gI_sD, gR_sI, gR_sA, gR_sQ, gR_sL, gR_sD, gA_sI, gA_sR, gA_sQ, gA_sL, gA_sD, gQ_sI, gQ_sR, gQ_sA, gQ_sL, gQ_sD, gL_sI, gL_sR, gL_sA, gL_sQ, gL_sD, kd_nO, kd_nA, *]) (T := TX3) (N := 27) rfl (by first | assumption | omega) (by first | assumption | omega) (by first | assumption | omega) (Nat.le_of_ble_eq_true rfl) ?_
            refine s_cableTold (by omega) hM (by omega) ?_
            rw [show 102 + 21 * i + (14 + j) = 116 + 21 * i + j by omega]
            refine r_iload_n (i := 2) dX3_areaIn_43 rfl rfl ?_
            refine r_icmp_ne (tgt := 61) dX3_areaIn_44 (by decide) (fun h44 => ?_) (fun h44 => ?_)
            · rw [if_neg (by simpa using h44)] at nx
              refine r_iconst (v := nI 0) dX3_areaIn_61 (by decide) ?_
              refine r_iadd dX3_areaIn_62 ?_
              refine r_istore_n (i := 3) dX3_areaIn_63 rfl (Nat.le_of_ble_eq_true rfl) (by simp only [lset]; rfl) ?_
              refine r_iinc dX3_areaIn_64 rfl (by first | exact nI_1 _ | rfl) (by simp only [lset]; rfl) ?_
              refine r_goto (tgt := 5) dX3_areaIn_67 (by decide) ?_
              exact nx _
            · rw [if_pos (by simpa using h44)] at nx
              refine r_aload_n (i := 0) dX3_areaIn_47 rfl rfl ?_
              refine r_aload_n (i := 0) dX3_areaIn_48 rfl rfl ?_
              refine r_iload dX3_areaIn_49 rfl ?_
              refine r_iconst (v := nI 0) dX3_areaIn_51 (by decide) ?_
              refine r_callV (As := [_, _]) (mc' := 0) (ms' := 0) dX3_areaIn_52 k_X3_105 rfl (by first | assumption | (simp only [kd_sI, kd_sR, kd_sA, kd_sQ, kd_sL, kd_sD, ln_sI, ln_sR, ln_sA, ln_sQ, ln_sL, ln_sD, gI_sR, gI_sA, gI_sQ, gI_sL, gI_sD, gR_sI, gR_sA, gR_sQ, gR_sL, gR_sD, gA_sI, gA_sR, gA_sQ, gA_sL, gA_sD, gQ_sI, gQ_sR, gQ_sA, gQ_sL, gQ_sD, gL_sI, gL_sR, gL_sA, gL_sQ, gL_sD]; assumption) | simp [kd_sI, kd_sR, kd_sA, kd_sQ, kd_sL, kd_sD, ln_sI, ln_sR, ln_sA, ln_sQ, ln_sL, ln_sD, gI_sR, gI_sA, gI_sQ, gI_sL, gI_sD, gR_sI, gR_sA, gR_sQ, gR_sL, gR_sD, gA_sI, gA_sR, gA_sQ, gA_sL, gA_sD, gQ_sI, gQ_sR, gQ_sA, gQ_sL, gQ_sD, gL_sI, gL_sR, gL_sA, gL_sQ, gL_sD, kd_nO, kd_nA, *]) (T := TX3) (N := 27) rfl (by first | assumption | omega) (by first | assumption | omega) (by first | assumption | omega) (Nat.le_of_ble_eq_true rfl) ?_
              refine s_cableTold (by omega) hM (by omega) ?_
              rw [show 102 + 21 * i + 0 = 102 + 21 * i by omega, ht1]
              refine r_callV (As := [_]) (mc' := 0) (ms' := 0) dX3_areaIn_55 k_X3_127 rfl (by first | assumption | (simp only [kd_sI, kd_sR, kd_sA, kd_sQ, kd_sL, kd_sD, ln_sI, ln_sR, ln_sA, ln_sQ, ln_sL, ln_sD, gI_sR, gI_sA, gI_sQ, gI_sL, gI_sD, gR_sI, gR_sA, gR_sQ, gR_sL, gR_sD, gA_sI, gA_sR, gA_sQ, gA_sL, gA_sD, gQ_sI, gQ_sR, gQ_sA, gQ_sL, gQ_sD, gL_sI, gL_sR, gL_sA, gL_sQ, gL_sD]; assumption) | simp [kd_sI, kd_sR, kd_sA, kd_sQ, kd_sL, kd_sD, ln_sI, ln_sR, ln_sA, ln_sQ, ln_sL, ln_sD, gI_sR, gI_sA, gI_sQ, gI_sL, gI_sD, gR_sI, gR_sA, gR_sQ, gR_sL, gR_sD, gA_sI, gA_sR, gA_sQ, gA_sL, gA_sD, gQ_sI, gQ_sR, gQ_sA, gQ_sL, gQ_sD, gL_sI, gL_sR, gL_sA, gL_sQ, gL_sD, kd_nO, kd_nA, *]) (T := TX3) (N := 27) rfl (by first | assumption | omega) (by first | assumption | omega) (by first | assumption | omega) (Nat.le_of_ble_eq_true rfl) ?_
              refine s_areaOf hM (by omega) ?_
              refine r_goto (tgt := 62) dX3_areaIn_58 (by decide) ?_
              refine r_iadd dX3_areaIn_62 ?_
              refine r_istore_n (i := 3) dX3_areaIn_63 rfl (Nat.le_of_ble_eq_true rfl) (by simp only [lset]; rfl) ?_
              refine r_iinc dX3_areaIn_64 rfl (by first | exact nI_1 _ | rfl) (by simp only [lset]; rfl) ?_
              refine r_goto (tgt := 5) dX3_areaIn_67 (by decide) ?_
              exact nx _
  exact loop C 0 none (by omega)
theorem s_classIn {t k : Int32} (hd : 3 ≤ d) (hM : MO H m ma) (hB : GB (gA H 1068 (ma 68))) (hQ : Qr (some (vI (q_class (gA H 1068 (ma 68)) t k))) H) : AMet G d 0 0 yX3_classIn wX3_classIn H [vR (some m), vI t, vI k] Qr Qx := by
  have e0 := hM.1
  obtain ⟨e68a, e68b, e68c⟩ : gR H 68 m = some (ma 68) ∧ kd H (ma 68) = 1068 ∧ ln H (ma 68) = 385 := hM.2 68 (by decide)
  obtain ⟨hs1, hs2⟩ := hB.2.2.1
  obtain ⟨C, hC⟩ : ∃ C, C = nat (gA H 1068 (ma 68)) 101 := ⟨_, rfl⟩
  rw [← hC] at hs1 hs2
  refine AMet.of (M := mX3_classIn) (maxL := 5) rfl rfl (Nat.le_of_ble_eq_true rfl) ?_
  show AW mX3_classIn _ _ _ _ _ _ _ 0 [some (vR (some m)), some (vI t), some (vI k), none, none] []
  refine r_iconst (v := nI 0) dX3_classIn_0 (by decide) ?_
  refine r_istore_n (i := 3) dX3_classIn_1 rfl (Nat.le_of_ble_eq_true rfl) (by simp only [lset]; rfl) ?_
  have loop : ∀ (n i : Nat) (x5 : Option AV), i + n = C → find9 (q_in (gA H 1068 (ma 68)) t k) 0 C = find9 (q_in (gA H 1068 (ma 68)) t k) i n → AW mX3_classIn G d Qr Qx 0 0 H 2 [some (vR (some m)), some (vI t), some (vI k), some (vI (nI i)), x5] [] := by
    intro n
    induction n with
    | zero =>
      intro i x5 hi hf
      refine r_iload_n (i := 3) dX3_classIn_2 rfl rfl ?_
      refine r_aload_n (i := 0) dX3_classIn_3 rfl rfl ?_
      refine r_getR dX3_classIn_4 fR_X3_7 (by first | assumption | (simp only [kd_sI, kd_sR, kd_sA, kd_sQ, kd_sL, kd_sD, ln_sI, ln_sR, ln_sA, ln_sQ, ln_sL, ln_sD, gI_sR, gI_sA, gI_sQ, gI_sL, gI_sD, gR_sI, gR_sA, gR_sQ, gR_sL, gR_sD, gA_sI, gA_sR, gA_sQ, gA_sL, gA_sD, gQ_sI, gQ_sR, gQ_sA, gQ_sL, gQ_sD, gL_sI, gL_sR, gL_sA, gL_sQ, gL_sD]; assumption) | simp [kd_sI, kd_sR, kd_sA, kd_sQ, kd_sL, kd_sD, ln_sI, ln_sR, ln_sA, ln_sQ, ln_sL, ln_sD, gI_sR, gI_sA, gI_sQ, gI_sL, gI_sD, gR_sI, gR_sA, gR_sQ, gR_sL, gR_sD, gA_sI, gA_sR, gA_sQ, gA_sL, gA_sD, gQ_sI, gQ_sR, gQ_sA, gQ_sL, gQ_sD, gL_sI, gL_sR, gL_sA, gL_sQ, gL_sD, kd_nO, kd_nA, *]) (by first | assumption | with_reducible rfl | (simp only [kd_sI, kd_sR, kd_sA, kd_sQ, kd_sL, kd_sD, ln_sI, ln_sR, ln_sA, ln_sQ, ln_sL, ln_sD, gI_sR, gI_sA, gI_sQ, gI_sL, gI_sD, gR_sI, gR_sA, gR_sQ, gR_sL, gR_sD, gA_sI, gA_sR, gA_sQ, gA_sL, gA_sD, gQ_sI, gQ_sR, gQ_sA, gQ_sL, gQ_sD, gL_sI, gL_sR, gL_sA, gL_sQ, gL_sD]; first | done | assumption | with_reducible rfl) | rfl) ?_
      refine r_bipush (v := nI 101) dX3_classIn_7 (by decide) ?_
      refine r_iald dX3_classIn_9 (by first | assumption | (simp only [kd_sI, kd_sR, kd_sA, kd_sQ, kd_sL, kd_sD, ln_sI, ln_sR, ln_sA, ln_sQ, ln_sL, ln_sD, gI_sR, gI_sA, gI_sQ, gI_sL, gI_sD, gR_sI, gR_sA, gR_sQ, gR_sL, gR_sD, gA_sI, gA_sR, gA_sQ, gA_sL, gA_sD, gQ_sI, gQ_sR, gQ_sA, gQ_sL, gQ_sD, gL_sI, gL_sR, gL_sA, gL_sQ, gL_sD]; assumption) | simp [kd_sI, kd_sR, kd_sA, kd_sQ, kd_sL, kd_sD, ln_sI, ln_sR, ln_sA, ln_sQ, ln_sL, ln_sD, gI_sR, gI_sA, gI_sQ, gI_sL, gI_sD, gR_sI, gR_sA, gR_sQ, gR_sL, gR_sD, gA_sI, gA_sR, gA_sQ, gA_sL, gA_sD, gQ_sI, gQ_sR, gQ_sA, gQ_sL, gQ_sD, gL_sI, gL_sR, gL_sA, gL_sQ, gL_sD, kd_nO, kd_nA, *]) (by decide) (by first | assumption | with_reducible rfl | (simp only [kd_sI, kd_sR, kd_sA, kd_sQ, kd_sL, kd_sD, ln_sI, ln_sR, ln_sA, ln_sQ, ln_sL, ln_sD, gI_sR, gI_sA, gI_sQ, gI_sL, gI_sD, gR_sI, gR_sA, gR_sQ, gR_sL, gR_sD, gA_sI, gA_sR, gA_sQ, gA_sL, gA_sD, gQ_sI, gQ_sR, gQ_sA, gQ_sL, gQ_sD, gL_sI, gL_sR, gL_sA, gL_sQ, gL_sD]; first | done | assumption | with_reducible rfl) | rfl) (by first | with_reducible rfl | assumption | (simp only [nI_add, pk_mul, nI_1]; with_reducible rfl)) (by first | assumption | omega) (by first | assumption | omega) (by first | assumption | with_reducible rfl | (simp only [kd_sI, kd_sR, kd_sA, kd_sQ, kd_sL, kd_sD, ln_sI, ln_sR, ln_sA, ln_sQ, ln_sL, ln_sD, gI_sR, gI_sA, gI_sQ, gI_sL, gI_sD, gR_sI, gR_sA, gR_sQ, gR_sL, gR_sD, gA_sI, gA_sR, gA_sQ, gA_sL, gA_sD, gQ_sI, gQ_sR, gQ_sA, gQ_sL, gQ_sD, gL_sI, gL_sR, gL_sA, gL_sQ, gL_sD]; first | done | assumption | with_reducible rfl) | rfl) ?_
      refine r_icmp_ge (tgt := 57) dX3_classIn_10 (by decide) (fun h10 => ?_) (fun h10 => ?_)
      · refine r_iconst (v := -1) dX3_classIn_57 (by decide) ?_
        refine r_ireturn dX3_classIn_58 rfl (by first | rfl | assumption | exact vp_nar_int _) ?_
        unfold q_class at hQ
        rw [← hC, hf] at hQ
        exact hQ
      · exact absurd (nI_le (by omega) (by omega)) h10
    | succ n ih =>
      intro i x5 hi hf
      refine r_iload_n (i := 3) dX3_classIn_2 rfl rfl ?_
      refine r_aload_n (i := 0) dX3_classIn_3 rfl rfl ?_
      refine r_getR dX3_classIn_4 fR_X3_7 (by first | assumption | (simp only [kd_sI, kd_sR, kd_sA, kd_sQ, kd_sL, kd_sD, ln_sI, ln_sR, ln_sA, ln_sQ, ln_sL, ln_sD, gI_sR, gI_sA, gI_sQ, gI_sL, gI_sD, gR_sI, gR_sA, gR_sQ, gR_sL, gR_sD, gA_sI, gA_sR, gA_sQ, gA_sL, gA_sD, gQ_sI, gQ_sR, gQ_sA, gQ_sL, gQ_sD, gL_sI, gL_sR, gL_sA, gL_sQ, gL_sD]; assumption) | simp [kd_sI, kd_sR, kd_sA, kd_sQ, kd_sL, kd_sD, ln_sI, ln_sR, ln_sA, ln_sQ, ln_sL, ln_sD, gI_sR, gI_sA, gI_sQ, gI_sL, gI_sD, gR_sI, gR_sA, gR_sQ, gR_sL, gR_sD, gA_sI, gA_sR, gA_sQ, gA_sL, gA_sD, gQ_sI, gQ_sR, gQ_sA, gQ_sL, gQ_sD, gL_sI, gL_sR, gL_sA, gL_sQ, gL_sD, kd_nO, kd_nA, *]) (by first | assumption | with_reducible rfl | (simp only [kd_sI, kd_sR, kd_sA, kd_sQ, kd_sL, kd_sD, ln_sI, ln_sR, ln_sA, ln_sQ, ln_sL, ln_sD, gI_sR, gI_sA, gI_sQ, gI_sL, gI_sD, gR_sI, gR_sA, gR_sQ, gR_sL, gR_sD, gA_sI, gA_sR, gA_sQ, gA_sL, gA_sD, gQ_sI, gQ_sR, gQ_sA, gQ_sL, gQ_sD, gL_sI, gL_sR, gL_sA, gL_sQ, gL_sD]; first | done | assumption | with_reducible rfl) | rfl) ?_
      refine r_bipush (v := nI 101) dX3_classIn_7 (by decide) ?_
      refine r_iald dX3_classIn_9 (by first | assumption | (simp only [kd_sI, kd_sR, kd_sA, kd_sQ, kd_sL, kd_sD, ln_sI, ln_sR, ln_sA, ln_sQ, ln_sL, ln_sD, gI_sR, gI_sA, gI_sQ, gI_sL, gI_sD, gR_sI, gR_sA, gR_sQ, gR_sL, gR_sD, gA_sI, gA_sR, gA_sQ, gA_sL, gA_sD, gQ_sI, gQ_sR, gQ_sA, gQ_sL, gQ_sD, gL_sI, gL_sR, gL_sA, gL_sQ, gL_sD]; assumption) | simp [kd_sI, kd_sR, kd_sA, kd_sQ, kd_sL, kd_sD, ln_sI, ln_sR, ln_sA, ln_sQ, ln_sL, ln_sD, gI_sR, gI_sA, gI_sQ, gI_sL, gI_sD, gR_sI, gR_sA, gR_sQ, gR_sL, gR_sD, gA_sI, gA_sR, gA_sQ, gA_sL, gA_sD, gQ_sI, gQ_sR, gQ_sA, gQ_sL, gQ_sD, gL_sI, gL_sR, gL_sA, gL_sQ, gL_sD, kd_nO, kd_nA, *]) (by decide) (by first | assumption | with_reducible rfl | (simp only [kd_sI, kd_sR, kd_sA, kd_sQ, kd_sL, kd_sD, ln_sI, ln_sR, ln_sA, ln_sQ, ln_sL, ln_sD, gI_sR, gI_sA, gI_sQ, gI_sL, gI_sD, gR_sI, gR_sA, gR_sQ, gR_sL, gR_sD, gA_sI, gA_sR, gA_sQ, gA_sL, gA_sD, gQ_sI, gQ_sR, gQ_sA, gQ_sL, gQ_sD, gL_sI, gL_sR, gL_sA, gL_sQ, gL_sD]; first | done | assumption | with_reducible rfl) | rfl) (by first | with_reducible rfl | assumption | (simp only [nI_add, pk_mul, nI_1]; with_reducible rfl)) (by first | assumption | omega) (by first | assumption | omega) (by first | assumption | with_reducible rfl | (simp only [kd_sI, kd_sR, kd_sA, kd_sQ, kd_sL, kd_sD, ln_sI, ln_sR, ln_sA, ln_sQ, ln_sL, ln_sD, gI_sR, gI_sA, gI_sQ, gI_sL, gI_sD, gR_sI, gR_sA, gR_sQ, gR_sL, gR_sD, gA_sI, gA_sR, gA_sQ, gA_sL, gA_sD, gQ_sI, gQ_sR, gQ_sA, gQ_sL, gQ_sD, gL_sI, gL_sR, gL_sA, gL_sQ, gL_sD]; first | done | assumption | with_reducible rfl) | rfl) ?_
      refine r_icmp_ge (tgt := 57) dX3_classIn_10 (by decide) (fun h10 => ?_) (fun h10 => ?_)
      · exact absurd h10 (nI_ge (by omega) (by omega))
      · refine r_aload_n (i := 0) dX3_classIn_13 rfl rfl ?_
        refine r_iload_n (i := 3) dX3_classIn_14 rfl rfl ?_
        refine r_iload_n (i := 1) dX3_classIn_15 rfl rfl ?_
        refine r_callV (As := [_, _]) (mc' := 0) (ms' := 0) dX3_classIn_16 k_X3_108 rfl (by first | assumption | (simp only [kd_sI, kd_sR, kd_sA, kd_sQ, kd_sL, kd_sD, ln_sI, ln_sR, ln_sA, ln_sQ, ln_sL, ln_sD, gI_sR, gI_sA, gI_sQ, gI_sL, gI_sD, gR_sI, gR_sA, gR_sQ, gR_sL, gR_sD, gA_sI, gA_sR, gA_sQ, gA_sL, gA_sD, gQ_sI, gQ_sR, gQ_sA, gQ_sL, gQ_sD, gL_sI, gL_sR, gL_sA, gL_sQ, gL_sD]; assumption) | simp [kd_sI, kd_sR, kd_sA, kd_sQ, kd_sL, kd_sD, ln_sI, ln_sR, ln_sA, ln_sQ, ln_sL, ln_sD, gI_sR, gI_sA, gI_sQ, gI_sL, gI_sD, gR_sI, gR_sA, gR_sQ, gR_sL, gR_sD, gA_sI, gA_sR, gA_sQ, gA_sL, gA_sD, gQ_sI, gQ_sR, gQ_sA, gQ_sL, gQ_sD, gL_sI, gL_sR, gL_sA, gL_sQ, gL_sD, kd_nO, kd_nA, *]) (T := TX3) (N := 27) rfl (by first | assumption | omega) (by first | assumption | omega) (by first | assumption | omega) (Nat.le_of_ble_eq_true rfl) ?_
        refine s_stepIn (by omega) hM hB (by omega) ?_
        refine r_istore dX3_classIn_19 (Nat.le_of_ble_eq_true rfl) (by simp only [lset]; rfl) ?_
        refine r_iload dX3_classIn_21 rfl ?_
        cases hq : q_step (gA H 1068 (ma 68)) i t with
        | none =>
          have hqi : q_in (gA H 1068 (ma 68)) t k i = false := by rw [q_in, hq]
          refine r_if_lt (tgt := 51) dX3_classIn_23 (by decide) (fun h23 => ?_) (fun h23 => ?_)
          · refine r_iinc dX3_classIn_51 rfl (by first | exact nI_1 _ | rfl) (by simp only [lset]; rfl) ?_
            refine r_goto (tgt := 2) dX3_classIn_54 (by decide) ?_
            exact ih (i + 1) _ (by omega) (by rw [hf, find9, if_neg (by rw [hqi]; decide)])
          · exact absurd (by decide) h23
        | some j =>
          have hqi : q_in (gA H 1068 (ma 68)) t k i = (gA H 1068 (ma 68) (116 + 21 * i + j) == k) := by rw [q_in, hq]
          have hj := (find9_lt hq).2.1
          obtain ⟨⟨ht1, ht2⟩, ⟨-, hsj⟩, -⟩ := hB.2.2.2.2.2 i (by omega)
          have hT6 := hB.1.2
          simp only [oI]
          refine r_if_lt (tgt := 51) dX3_classIn_23 (by decide) (fun h23 => ?_) (fun h23 => ?_)
          · exact absurd h23 (nI_lt0 (by omega))
          · refine r_aload_n (i := 0) dX3_classIn_26 rfl rfl ?_
            refine r_iload_n (i := 3) dX3_classIn_27 rfl rfl ?_
            refine r_bipush (v := nI 14) dX3_classIn_28 (by decide) ?_
            refine r_iload dX3_classIn_30 rfl ?_
            refine r_iadd dX3_classIn_32 ?_
            try simp only [nI_add, pk_mul, nI_1]
            refine r_callV (As := [_, _]) (mc' := 0) (ms' := 0) dX3_classIn_33 k_X3_105 rfl (by first | assumption | (simp only [kd_sI, kd_sR, kd_sA, kd_sQ, kd_sL, kd_sD, ln_sI, ln_sR, ln_sA, ln_sQ, ln_sL, ln_sD, gI_sR, gI_sA, gI_sQ, gI_sL, gI_sD, gR_sI, gR_sA, gR_sQ, gR_sL, gR_sD, gA_sI, gA_sR, gA_sQ, gA_sL, gA_sD, gQ_sI, gQ_sR, gQ_sA, gQ_sL, gQ_sD, gL_sI, gL_sR, gL_sA, gL_sQ, gL_sD]; assumption) | simp [kd_sI, kd_sR, kd_sA, kd_sQ, kd_sL, kd_sD, ln_sI, ln_sR, ln_sA, ln_sQ, ln_sL, ln_sD, gI_sR, gI_sA, gI_sQ, gI_sL, gI_sD, gR_sI, gR_sA, gR_sQ, gR_sL, gR_sD, gA_sI, gA_sR, gA_sQ, gA_sL, gA_sD, gQ_sI, gQ_sR, gQ_sA, gQ_sL, gQ_sD, gL_sI, gL_sR, gL_sA, gL_sQ, gL_sD, kd_nO, kd_nA, *]) (T := TX3) (N := 27) rfl (by first | assumption | omega) (by first | assumption | omega) (by first | assumption | omega) (Nat.le_of_ble_eq_true rfl) ?_
            refine s_cableTold (by omega) hM (by omega) ?_
            rw [show 102 + 21 * i + (14 + j) = 116 + 21 * i + j by omega]
            refine r_iload_n (i := 2) dX3_classIn_36 rfl rfl ?_
            refine r_icmp_ne (tgt := 51) dX3_classIn_37 (by decide) (fun h37 => ?_) (fun h37 => ?_)
            · refine r_iinc dX3_classIn_51 rfl (by first | exact nI_1 _ | rfl) (by simp only [lset]; rfl) ?_
              refine r_goto (tgt := 2) dX3_classIn_54 (by decide) ?_
              exact ih (i + 1) _ (by omega) (by rw [hf, find9, if_neg (by rw [hqi]; simpa using h37)])
            · refine r_aload_n (i := 0) dX3_classIn_40 rfl rfl ?_
              refine r_aload_n (i := 0) dX3_classIn_41 rfl rfl ?_
              refine r_iload_n (i := 3) dX3_classIn_42 rfl rfl ?_
              refine r_iconst (v := nI 0) dX3_classIn_43 (by decide) ?_
              refine r_callV (As := [_, _]) (mc' := 0) (ms' := 0) dX3_classIn_44 k_X3_105 rfl (by first | assumption | (simp only [kd_sI, kd_sR, kd_sA, kd_sQ, kd_sL, kd_sD, ln_sI, ln_sR, ln_sA, ln_sQ, ln_sL, ln_sD, gI_sR, gI_sA, gI_sQ, gI_sL, gI_sD, gR_sI, gR_sA, gR_sQ, gR_sL, gR_sD, gA_sI, gA_sR, gA_sQ, gA_sL, gA_sD, gQ_sI, gQ_sR, gQ_sA, gQ_sL, gQ_sD, gL_sI, gL_sR, gL_sA, gL_sQ, gL_sD]; assumption) | simp [kd_sI, kd_sR, kd_sA, kd_sQ, kd_sL, kd_sD, ln_sI, ln_sR, ln_sA, ln_sQ, ln_sL, ln_sD, gI_sR, gI_sA, gI_sQ, gI_sL, gI_sD, gR_sI, gR_sA, gR_sQ, gR_sL, gR_sD, gA_sI, gA_sR, gA_sQ, gA_sL, gA_sD, gQ_sI, gQ_sR, gQ_sA, gQ_sL, gQ_sD, gL_sI, gL_sR, gL_sA, gL_sQ, gL_sD, kd_nO, kd_nA, *]) (T := TX3) (N := 27) rfl (by first | assumption | omega) (by first | assumption | omega) (by first | assumption | omega) (Nat.le_of_ble_eq_true rfl) ?_
              refine s_cableTold (by omega) hM (by omega) ?_
              rw [show 102 + 21 * i + 0 = 102 + 21 * i by omega, ht1]
              refine r_callV (As := [_]) (mc' := 0) (ms' := 0) dX3_classIn_47 k_X3_130 rfl (by first | assumption | (simp only [kd_sI, kd_sR, kd_sA, kd_sQ, kd_sL, kd_sD, ln_sI, ln_sR, ln_sA, ln_sQ, ln_sL, ln_sD, gI_sR, gI_sA, gI_sQ, gI_sL, gI_sD, gR_sI, gR_sA, gR_sQ, gR_sL, gR_sD, gA_sI, gA_sR, gA_sQ, gA_sL, gA_sD, gQ_sI, gQ_sR, gQ_sA, gQ_sL, gQ_sD, gL_sI, gL_sR, gL_sA, gL_sQ, gL_sD]; assumption) | simp [kd_sI, kd_sR, kd_sA, kd_sQ, kd_sL, kd_sD, ln_sI, ln_sR, ln_sA, ln_sQ, ln_sL, ln_sD, gI_sR, gI_sA, gI_sQ, gI_sL, gI_sD, gR_sI, gR_sA, gR_sQ, gR_sL, gR_sD, gA_sI, gA_sR, gA_sQ, gA_sL, gA_sD, gQ_sI, gQ_sR, gQ_sA, gQ_sL, gQ_sD, gL_sI, gL_sR, gL_sA, gL_sQ, gL_sD, kd_nO, kd_nA, *]) (T := TX3) (N := 27) rfl (by first | assumption | omega) (by first | assumption | omega) (by first | assumption | omega) (Nat.le_of_ble_eq_true rfl) ?_
              refine s_classOf hM (by omega) ?_
              refine r_ireturn dX3_classIn_50 rfl (by first | rfl | assumption | exact vp_nar_int _) ?_
              unfold q_class at hQ
              rw [← hC, hf, find9, if_pos (by rw [hqi]; simpa using h37)] at hQ
              exact hQ
  exact loop C 0 none (by omega) rfl
end Mo2
