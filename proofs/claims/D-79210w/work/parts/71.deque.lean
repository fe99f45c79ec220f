set_option maxRecDepth 100000
/-! ARRAY DEQUES -/
section AbsInit
variable {G : Gl} {d : Nat} {Qr : Option AV → AH → Prop} {Qx : String → Nat → AH → Prop} {H : AH} {a : Nat}
theorem s_acInit (hd : 1 ≤ d) (hQ : Qr none H) : AMet G d 0 0 yJ0_init wJ0_init H [vR (some a)] Qr Qx := by
  refine AMet.of (M := mJ0_init) (maxL := 1) (by first | rfl | decide +kernel) rfl (Nat.le_of_ble_eq_true rfl) ?_
  show AW mJ0_init _ _ _ _ _ _ _ 0 [some (vR (some a))] []
  refine r_aload_n (i := 0) dJ0_init_0 rfl rfl ?_
  refine r_objInit dJ0_init_1 q166 (by with_reducible rfl) (by first | assumption | omega) (Nat.le_of_ble_eq_true rfl) ?_
  refine r_return dJ0_init_4 rfl ?_
  exact hQ
theorem s_amInit (hd : 1 ≤ d) (hQ : Qr none H) : AMet G d 0 0 yJ3_init wJ3_init H [vR (some a)] Qr Qx := by
  refine AMet.of (M := mJ3_init) (maxL := 1) (by first | rfl | decide +kernel) rfl (Nat.le_of_ble_eq_true rfl) ?_
  show AW mJ3_init _ _ _ _ _ _ _ 0 [some (vR (some a))] []
  refine r_aload_n (i := 0) dJ3_init_0 rfl rfl ?_
  refine r_objInit dJ3_init_1 q192 (by with_reducible rfl) (by first | assumption | omega) (Nat.le_of_ble_eq_true rfl) ?_
  refine r_return dJ3_init_4 rfl ?_
  exact hQ
theorem s_nuInit (hd : 1 ≤ d) (hQ : Qr none H) : AMet G d 0 0 yJ18_init wJ18_init H [vR (some a)] Qr Qx := by
  refine AMet.of (M := mJ18_init) (maxL := 1) (by first | rfl | decide +kernel) rfl (Nat.le_of_ble_eq_true rfl) ?_
  show AW mJ18_init _ _ _ _ _ _ _ 0 [some (vR (some a))] []
  refine r_aload_n (i := 0) dJ18_init_0 rfl rfl ?_
  refine r_objInit dJ18_init_1 q1188 (by with_reducible rfl) (by first | assumption | omega) (Nat.le_of_ble_eq_true rfl) ?_
  refine r_return dJ18_init_4 rfl ?_
  exact hQ
end AbsInit
section Deq
variable {G : Gl} {d : Nat} {Qr : Option AV → AH → Prop} {Qx : String → Nat → AH → Prop} {H : AH} {D n e hd0 : Nat} {xs : Nat → Nat}
/-- a deque D of n objects xs, in the array e of 17 from hd0 on -/
def DQ (G : Gl) (H : AH) (D n : Nat) (xs : Nat → Nat) (e hd0 : Nat) : Prop := kd H D = 22 ∧ gR H 106 D = some e ∧ kd H e = 4106 ∧ ln H e = 17 ∧ hd0 < 17 ∧ gI H 107 D = nI hd0 ∧ gI H 108 D = nI ((hd0 + n) % 17) ∧ n ≤ 8 ∧ (∀ i, i < n → gQ H 4106 e ((hd0 + i) % 17) = some (xs i)) ∧ ∀ i, i < n → isObj G H (xs i)
theorem DQ.ks {H' : AH} {S : Nat → Prop} (h : DQ G H D n xs e hd0) (hk : Ks S H H') (h1 : ¬ S D) (h2 : ¬ S e) : DQ G H' D n xs e hd0 := by
  obtain ⟨a1, a2, a3, a4, a5, a6, a7, a8, a9, a10⟩ := h
  have e1 := hk.at (a := D) (by rw [a1]; decide) h1
  have e2 := hk.at (a := e) (by rw [a3]; decide) h2
  exact ⟨by rw [at_kd e1]; exact a1, by rw [at_gR e1]; exact a2, by rw [at_kd e2]; exact a3, by rw [at_ln e2]; exact a4, a5, by rw [at_gI e1]; exact a6, by rw [at_gI e1]; exact a7, a8, fun i hi => by rw [at_gQ e2]; exact a9 i hi, fun i hi => (a10 i hi).ks hk⟩
theorem dq_sub : ∀ t, t < 17 → ∀ h, h < 17 → (h ≤ t → 0 ≤ nI t - nI h ∧ nI t - nI h = nI (t - h)) ∧ (t < h → (¬ 0 ≤ nI t - nI h) ∧ nI t - nI h + nI 17 = nI (t + 17 - h)) := by decide
theorem s_dqSub {t h k : Nat} (ht : t < 17) (hh : h < 17) (hk : k = if h ≤ t then t - h else t + 17 - h) (hQ : Qr (some (vI (nI k))) H) : AMet G d 0 0 yJ5_sub wJ5_sub H [vI (nI t), vI (nI h), vI (nI 17)] Qr Qx := by
  obtain ⟨c1, c2⟩ := dq_sub t ht h hh
  refine AMet.of (M := mJ5_sub) (maxL := 3) (by first | rfl | decide +kernel) rfl (Nat.le_of_ble_eq_true rfl) ?_
  show AW mJ5_sub _ _ _ _ _ _ _ 0 [some (vI (nI t)), some (vI (nI h)), some (vI (nI 17))] []
  refine r_iload_n (i := 0) dJ5_sub_0 rfl rfl ?_
  refine r_iload_n (i := 1) dJ5_sub_1 rfl rfl ?_
  refine r_isub dJ5_sub_2 ?_
  refine r_dup dJ5_sub_3 rfl ?_
  refine r_istore_n (i := 0) dJ5_sub_4 rfl (Nat.le_of_ble_eq_true rfl) (by simp only [lset]; rfl) ?_
  refine r_if_ge (tgt := 12) dJ5_sub_5 (by decide) (fun h5 => ?_) (fun h5 => ?_)
  · have hle : h ≤ t := Classical.byContradiction fun q => (c2 (by omega)).1 h5
    rw [if_pos hle] at hk
    rw [(c1 hle).2]
    refine r_iload_n (i := 0) dJ5_sub_12 rfl rfl ?_
    refine r_ireturn dJ5_sub_13 rfl (by first | rfl | assumption | exact vp_nar_int _ | exact pk_nc _) ?_
    rw [← hk]
    exact hQ
  · have hlt : t < h := Classical.byContradiction fun q => h5 (c1 (by omega)).1
    rw [if_neg (by omega)] at hk
    refine r_iload_n (i := 0) dJ5_sub_8 rfl rfl ?_
    refine r_iload_n (i := 2) dJ5_sub_9 rfl rfl ?_
    refine r_iadd dJ5_sub_10 ?_
    try simp only [nI_add]
    refine r_istore_n (i := 0) dJ5_sub_11 rfl (Nat.le_of_ble_eq_true rfl) (by simp only [lset]; rfl) ?_
    rw [(c2 hlt).2]
    refine r_iload_n (i := 0) dJ5_sub_12 rfl rfl ?_
    refine r_ireturn dJ5_sub_13 rfl (by first | rfl | assumption | exact vp_nar_int _ | exact pk_nc _) ?_
    rw [← hk]
    exact hQ
theorem s_dqSize (hd : 1 ≤ d) (h : DQ G H D n xs e hd0) (hQ : Qr (some (vI (nI n))) H) : AMet G d 0 0 yJ5_size wJ5_size H [vR (some D)] Qr Qx := by
  obtain ⟨a1, a2, a3, a4, a5, a6, a7, a8, a9, a10⟩ := h
  refine AMet.of (M := mJ5_size) (maxL := 1) (by first | rfl | decide +kernel) rfl (Nat.le_of_ble_eq_true rfl) ?_
  show AW mJ5_size _ _ _ _ _ _ _ 0 [some (vR (some D))] []
  refine r_aload_n (i := 0) dJ5_size_0 rfl rfl ?_
  refine r_getI dJ5_size_1 fR_J5_20 (by first | assumption | (simp only [kd_sI, kd_sR, kd_sA, kd_sQ, kd_sL, kd_sD, ln_sI, ln_sR, ln_sA, ln_sQ, ln_sL, ln_sD, gI_sR, gI_sA, gI_sQ, gI_sL, gI_sD, gR_sI, gR_sA, gR_sQ, gR_sL, gR_sD, gA_sI, gA_sR, gA_sQ, gA_sL, gA_sD, gQ_sI, gQ_sR, gQ_sA, gQ_sL, gQ_sD, gL_sI, gL_sR, gL_sA, gL_sQ, gL_sD]; assumption) | simp [kd_sI, kd_sR, kd_sA, kd_sQ, kd_sL, kd_sD, ln_sI, ln_sR, ln_sA, ln_sQ, ln_sL, ln_sD, gI_sR, gI_sA, gI_sQ, gI_sL, gI_sD, gR_sI, gR_sA, gR_sQ, gR_sL, gR_sD, gA_sI, gA_sR, gA_sQ, gA_sL, gA_sD, gQ_sI, gQ_sR, gQ_sA, gQ_sL, gQ_sD, gL_sI, gL_sR, gL_sA, gL_sQ, gL_sD, kd_nO, kd_nA, *]) (by first | assumption | exact gI_sIs | exact gR_sRs | with_reducible rfl | (simp only [kd_sI, kd_sR, kd_sA, kd_sQ, kd_sL, kd_sD, ln_sI, ln_sR, ln_sA, ln_sQ, ln_sL, ln_sD, gI_sR, gI_sA, gI_sQ, gI_sL, gI_sD, gR_sI, gR_sA, gR_sQ, gR_sL, gR_sD, gA_sI, gA_sR, gA_sQ, gA_sL, gA_sD, gQ_sI, gQ_sR, gQ_sA, gQ_sL, gQ_sD, gL_sI, gL_sR, gL_sA, gL_sQ, gL_sD]; first | done | assumption | with_reducible rfl) | rfl) ?_
  refine r_aload_n (i := 0) dJ5_size_4 rfl rfl ?_
  refine r_getI dJ5_size_5 fR_J5_24 (by first | assumption | (simp only [kd_sI, kd_sR, kd_sA, kd_sQ, kd_sL, kd_sD, ln_sI, ln_sR, ln_sA, ln_sQ, ln_sL, ln_sD, gI_sR, gI_sA, gI_sQ, gI_sL, gI_sD, gR_sI, gR_sA, gR_sQ, gR_sL, gR_sD, gA_sI, gA_sR, gA_sQ, gA_sL, gA_sD, gQ_sI, gQ_sR, gQ_sA, gQ_sL, gQ_sD, gL_sI, gL_sR, gL_sA, gL_sQ, gL_sD]; assumption) | simp [kd_sI, kd_sR, kd_sA, kd_sQ, kd_sL, kd_sD, ln_sI, ln_sR, ln_sA, ln_sQ, ln_sL, ln_sD, gI_sR, gI_sA, gI_sQ, gI_sL, gI_sD, gR_sI, gR_sA, gR_sQ, gR_sL, gR_sD, gA_sI, gA_sR, gA_sQ, gA_sL, gA_sD, gQ_sI, gQ_sR, gQ_sA, gQ_sL, gQ_sD, gL_sI, gL_sR, gL_sA, gL_sQ, gL_sD, kd_nO, kd_nA, *]) (by first | assumption | exact gI_sIs | exact gR_sRs | with_reducible rfl | (simp only [kd_sI, kd_sR, kd_sA, kd_sQ, kd_sL, kd_sD, ln_sI, ln_sR, ln_sA, ln_sQ, ln_sL, ln_sD, gI_sR, gI_sA, gI_sQ, gI_sL, gI_sD, gR_sI, gR_sA, gR_sQ, gR_sL, gR_sD, gA_sI, gA_sR, gA_sQ, gA_sL, gA_sD, gQ_sI, gQ_sR, gQ_sA, gQ_sL, gQ_sD, gL_sI, gL_sR, gL_sA, gL_sQ, gL_sD]; first | done | assumption | with_reducible rfl) | rfl) ?_
  refine r_aload_n (i := 0) dJ5_size_8 rfl rfl ?_
  refine r_getR dJ5_size_9 fR_J5_3 (by first | assumption | (simp only [kd_sI, kd_sR, kd_sA, kd_sQ, kd_sL, kd_sD, ln_sI, ln_sR, ln_sA, ln_sQ, ln_sL, ln_sD, gI_sR, gI_sA, gI_sQ, gI_sL, gI_sD, gR_sI, gR_sA, gR_sQ, gR_sL, gR_sD, gA_sI, gA_sR, gA_sQ, gA_sL, gA_sD, gQ_sI, gQ_sR, gQ_sA, gQ_sL, gQ_sD, gL_sI, gL_sR, gL_sA, gL_sQ, gL_sD]; assumption) | simp [kd_sI, kd_sR, kd_sA, kd_sQ, kd_sL, kd_sD, ln_sI, ln_sR, ln_sA, ln_sQ, ln_sL, ln_sD, gI_sR, gI_sA, gI_sQ, gI_sL, gI_sD, gR_sI, gR_sA, gR_sQ, gR_sL, gR_sD, gA_sI, gA_sR, gA_sQ, gA_sL, gA_sD, gQ_sI, gQ_sR, gQ_sA, gQ_sL, gQ_sD, gL_sI, gL_sR, gL_sA, gL_sQ, gL_sD, kd_nO, kd_nA, *]) (by first | assumption | exact gI_sIs | exact gR_sRs | with_reducible rfl | (simp only [kd_sI, kd_sR, kd_sA, kd_sQ, kd_sL, kd_sD, ln_sI, ln_sR, ln_sA, ln_sQ, ln_sL, ln_sD, gI_sR, gI_sA, gI_sQ, gI_sL, gI_sD, gR_sI, gR_sA, gR_sQ, gR_sL, gR_sD, gA_sI, gA_sR, gA_sQ, gA_sL, gA_sD, gQ_sI, gQ_sR, gQ_sA, gQ_sL, gQ_sD, gL_sI, gL_sR, gL_sA, gL_sQ, gL_sD]; first | done | assumption | with_reducible rfl) | rfl) ?_
  refine r_alen dJ5_size_12 (by first | (refine ⟨?_, ?_⟩ <;> simp [kd_sI, kd_sR, kd_sA, kd_sQ, kd_sL, kd_sD, ln_sI, ln_sR, ln_sA, ln_sQ, ln_sL, ln_sD, gI_sR, gI_sA, gI_sQ, gI_sL, gI_sD, gR_sI, gR_sA, gR_sQ, gR_sL, gR_sD, gA_sI, gA_sR, gA_sQ, gA_sL, gA_sD, gQ_sI, gQ_sR, gQ_sA, gQ_sL, gQ_sD, gL_sI, gL_sR, gL_sA, gL_sQ, gL_sD, *]; done) | omega) (by first | assumption | exact gI_sIs | exact gR_sRs | with_reducible rfl | (simp only [kd_sI, kd_sR, kd_sA, kd_sQ, kd_sL, kd_sD, ln_sI, ln_sR, ln_sA, ln_sQ, ln_sL, ln_sD, gI_sR, gI_sA, gI_sQ, gI_sL, gI_sD, gR_sI, gR_sA, gR_sQ, gR_sL, gR_sD, gA_sI, gA_sR, gA_sQ, gA_sL, gA_sD, gQ_sI, gQ_sR, gQ_sA, gQ_sL, gQ_sD, gL_sI, gL_sR, gL_sA, gL_sQ, gL_sD]; first | done | assumption | with_reducible rfl) | rfl) ?_
  refine r_callS (As := [_, _, _]) (mc' := 0) (ms' := 0) dJ5_size_13 k_J5_127 rfl (by first | assumption | omega) (by first | assumption | omega) (by first | assumption | omega) (Nat.le_of_ble_eq_true rfl) ?_
  refine s_dqSub (k := n) (by omega) a5 ?_ ?_
  · split <;> omega
  show AW mJ5_size G d Qr Qx _ _ _ 16 _ _
  refine r_ireturn dJ5_size_16 rfl (by first | rfl | assumption | exact vp_nar_int _ | exact pk_nc _) ?_
  exact hQ
theorem s_dqEmpty (h : DQ G H D n xs e hd0) (hQ : Qr (some (vI (if n = 0 then nI 1 else nI 0))) H) : AMet G d 0 0 yJ5_isEmpty wJ5_isEmpty H [vR (some D)] Qr Qx := by
  obtain ⟨a1, a2, a3, a4, a5, a6, a7, a8, a9, a10⟩ := h
  refine AMet.of (M := mJ5_isEmpty) (maxL := 1) (by first | rfl | decide +kernel) rfl (Nat.le_of_ble_eq_true rfl) ?_
  show AW mJ5_isEmpty _ _ _ _ _ _ _ 0 [some (vR (some D))] []
  refine r_aload_n (i := 0) dJ5_isEmpty_0 rfl rfl ?_
  refine r_getI dJ5_isEmpty_1 fR_J5_24 (by first | assumption | (simp only [kd_sI, kd_sR, kd_sA, kd_sQ, kd_sL, kd_sD, ln_sI, ln_sR, ln_sA, ln_sQ, ln_sL, ln_sD, gI_sR, gI_sA, gI_sQ, gI_sL, gI_sD, gR_sI, gR_sA, gR_sQ, gR_sL, gR_sD, gA_sI, gA_sR, gA_sQ, gA_sL, gA_sD, gQ_sI, gQ_sR, gQ_sA, gQ_sL, gQ_sD, gL_sI, gL_sR, gL_sA, gL_sQ, gL_sD]; assumption) | simp [kd_sI, kd_sR, kd_sA, kd_sQ, kd_sL, kd_sD, ln_sI, ln_sR, ln_sA, ln_sQ, ln_sL, ln_sD, gI_sR, gI_sA, gI_sQ, gI_sL, gI_sD, gR_sI, gR_sA, gR_sQ, gR_sL, gR_sD, gA_sI, gA_sR, gA_sQ, gA_sL, gA_sD, gQ_sI, gQ_sR, gQ_sA, gQ_sL, gQ_sD, gL_sI, gL_sR, gL_sA, gL_sQ, gL_sD, kd_nO, kd_nA, *]) (by first | assumption | exact gI_sIs | exact gR_sRs | with_reducible rfl | (simp only [kd_sI, kd_sR, kd_sA, kd_sQ, kd_sL, kd_sD, ln_sI, ln_sR, ln_sA, ln_sQ, ln_sL, ln_sD, gI_sR, gI_sA, gI_sQ, gI_sL, gI_sD, gR_sI, gR_sA, gR_sQ, gR_sL, gR_sD, gA_sI, gA_sR, gA_sQ, gA_sL, gA_sD, gQ_sI, gQ_sR, gQ_sA, gQ_sL, gQ_sD, gL_sI, gL_sR, gL_sA, gL_sQ, gL_sD]; first | done | assumption | with_reducible rfl) | rfl) ?_
  refine r_aload_n (i := 0) dJ5_isEmpty_4 rfl rfl ?_
  refine r_getI dJ5_isEmpty_5 fR_J5_20 (by first | assumption | (simp only [kd_sI, kd_sR, kd_sA, kd_sQ, kd_sL, kd_sD, ln_sI, ln_sR, ln_sA, ln_sQ, ln_sL, ln_sD, gI_sR, gI_sA, gI_sQ, gI_sL, gI_sD, gR_sI, gR_sA, gR_sQ, gR_sL, gR_sD, gA_sI, gA_sR, gA_sQ, gA_sL, gA_sD, gQ_sI, gQ_sR, gQ_sA, gQ_sL, gQ_sD, gL_sI, gL_sR, gL_sA, gL_sQ, gL_sD]; assumption) | simp [kd_sI, kd_sR, kd_sA, kd_sQ, kd_sL, kd_sD, ln_sI, ln_sR, ln_sA, ln_sQ, ln_sL, ln_sD, gI_sR, gI_sA, gI_sQ, gI_sL, gI_sD, gR_sI, gR_sA, gR_sQ, gR_sL, gR_sD, gA_sI, gA_sR, gA_sQ, gA_sL, gA_sD, gQ_sI, gQ_sR, gQ_sA, gQ_sL, gQ_sD, gL_sI, gL_sR, gL_sA, gL_sQ, gL_sD, kd_nO, kd_nA, *]) (by first | assumption | exact gI_sIs | exact gR_sRs | with_reducible rfl | (simp only [kd_sI, kd_sR, kd_sA, kd_sQ, kd_sL, kd_sD, ln_sI, ln_sR, ln_sA, ln_sQ, ln_sL, ln_sD, gI_sR, gI_sA, gI_sQ, gI_sL, gI_sD, gR_sI, gR_sA, gR_sQ, gR_sL, gR_sD, gA_sI, gA_sR, gA_sQ, gA_sL, gA_sD, gQ_sI, gQ_sR, gQ_sA, gQ_sL, gQ_sD, gL_sI, gL_sR, gL_sA, gL_sQ, gL_sD]; first | done | assumption | with_reducible rfl) | rfl) ?_
  refine r_icmp_ne (tgt := 15) dJ5_isEmpty_8 (by decide) (fun h8 => ?_) (fun h8 => ?_)
  · rw [if_neg (fun q => h8 (by rw [q]; congr 1; omega))] at hQ
    refine r_iconst (v := nI 0) dJ5_isEmpty_15 (by decide) ?_
    refine r_ireturn dJ5_isEmpty_16 rfl (by first | rfl | assumption | exact vp_nar_int _ | exact pk_nc _) ?_
    exact hQ
  · rw [if_pos (Classical.byContradiction fun q => nI_ne (a := hd0) (b := (hd0 + n) % 17) (by omega) (by omega) (by omega) h8)] at hQ
    refine r_iconst (v := nI 1) dJ5_isEmpty_11 (by decide) ?_
    refine r_goto (tgt := 16) dJ5_isEmpty_12 (by decide) ?_
    refine r_ireturn dJ5_isEmpty_16 rfl (by first | rfl | assumption | exact vp_nar_int _ | exact pk_nc _) ?_
    exact hQ
theorem s_dqInc {t : Nat} (ht : t < 17) (hQ : Qr (some (vI (nI ((t + 1) % 17)))) H) : AMet G d 0 0 yJ5_inc wJ5_inc H [vI (nI t), vI (nI 17)] Qr Qx := by
  refine AMet.of (M := mJ5_inc) (maxL := 2) (by first | rfl | decide +kernel) rfl (Nat.le_of_ble_eq_true rfl) ?_
  show AW mJ5_inc _ _ _ _ _ _ _ 0 [some (vI (nI t)), some (vI (nI 17))] []
  refine r_iinc dJ5_inc_0 rfl (by first | exact nI_1 _ | rfl) (by simp only [lset]; rfl) ?_
  refine r_iload_n (i := 0) dJ5_inc_3 rfl rfl ?_
  refine r_iload_n (i := 1) dJ5_inc_4 rfl rfl ?_
  refine r_icmp_lt (tgt := 10) dJ5_inc_5 (by decide) (fun h5 => ?_) (fun h5 => ?_)
  · have q : t + 1 < 17 := Classical.byContradiction fun q => nI_nlt (a := t + 1) (b := 17) (by omega) (by omega) h5
    refine r_iload_n (i := 0) dJ5_inc_10 rfl rfl ?_
    refine r_ireturn dJ5_inc_11 rfl (by first | rfl | assumption | exact vp_nar_int _ | exact pk_nc _) ?_
    rw [Nat.mod_eq_of_lt q] at hQ
    exact hQ
  · have q : t = 16 := Classical.byContradiction fun q => h5 (nI_lt (by omega) (by omega))
    subst q
    refine r_iconst (v := nI 0) dJ5_inc_8 (by decide) ?_
    refine r_istore_n (i := 0) dJ5_inc_9 rfl (Nat.le_of_ble_eq_true rfl) (by simp only [lset]; rfl) ?_
    refine r_iload_n (i := 0) dJ5_inc_10 rfl rfl ?_
    refine r_ireturn dJ5_inc_11 rfl (by first | rfl | assumption | exact vp_nar_int _ | exact pk_nc _) ?_
    exact hQ
theorem s_dqDec {t : Nat} (ht : t < 17) (hQ : Qr (some (vI (nI ((t + 16) % 17)))) H) : AMet G d 0 0 yJ5_dec wJ5_dec H [vI (nI t), vI (nI 17)] Qr Qx := by
  have hall : ∀ t, t < 17 → (0 < t → 0 ≤ nI t + Int32.ofInt (-1) ∧ nI t + Int32.ofInt (-1) = nI ((t + 16) % 17)) ∧ (t = 0 → ¬ 0 ≤ nI t + Int32.ofInt (-1)) := by decide
  obtain ⟨c1, c2⟩ := hall t ht
  refine AMet.of (M := mJ5_dec) (maxL := 2) (by first | rfl | decide +kernel) rfl (Nat.le_of_ble_eq_true rfl) ?_
  show AW mJ5_dec _ _ _ _ _ _ _ 0 [some (vI (nI t)), some (vI (nI 17))] []
  refine r_iinc dJ5_dec_0 rfl (rfl) (by simp only [lset]; rfl) ?_
  refine r_iload_n (i := 0) dJ5_dec_3 rfl rfl ?_
  refine r_if_ge (tgt := 11) dJ5_dec_4 (by decide) (fun h4 => ?_) (fun h4 => ?_)
  · have q : 0 < t := Classical.byContradiction fun q => c2 (by omega) h4
    refine r_iload_n (i := 0) dJ5_dec_11 rfl rfl ?_
    refine r_ireturn dJ5_dec_12 rfl (by first | rfl | assumption | exact vp_nar_int _ | exact pk_nc _) ?_
    rw [(c1 q).2]
    exact hQ
  · have q : t = 0 := Classical.byContradiction fun q => h4 (c1 (by omega)).1
    subst q
    refine r_iload_n (i := 1) dJ5_dec_7 rfl rfl ?_
    refine r_iconst (v := nI 1) dJ5_dec_8 (by decide) ?_
    refine r_isub dJ5_dec_9 ?_
    refine r_istore_n (i := 0) dJ5_dec_10 rfl (Nat.le_of_ble_eq_true rfl) (by simp only [lset]; rfl) ?_
    refine r_iload_n (i := 0) dJ5_dec_11 rfl rfl ?_
    refine r_ireturn dJ5_dec_12 rfl (by first | rfl | assumption | exact vp_nar_int _ | exact pk_nc _) ?_
    exact hQ
theorem s_dqAt {t : Nat} {r : Option Nat} (he : kd H e = 4106) (hl : ln H e = 17) (ht : t < 17) (hr : gQ H 4106 e t = r) (hQ : Qr (some (vR r)) H) : AMet G d 0 0 yJ5_elementAt wJ5_elementAt H [vR (some e), vI (nI t)] Qr Qx := by
  refine AMet.of (M := mJ5_elementAt) (maxL := 2) (by first | rfl | decide +kernel) rfl (Nat.le_of_ble_eq_true rfl) ?_
  show AW mJ5_elementAt _ _ _ _ _ _ _ 0 [some (vR (some e)), some (vI (nI t))] []
  refine r_aload_n (i := 0) dJ5_elementAt_0 rfl rfl ?_
  refine r_iload_n (i := 1) dJ5_elementAt_1 rfl rfl ?_
  refine r_qald dJ5_elementAt_2 (by first | assumption | (simp only [kd_sI, kd_sR, kd_sA, kd_sQ, kd_sL, kd_sD, ln_sI, ln_sR, ln_sA, ln_sQ, ln_sL, ln_sD, gI_sR, gI_sA, gI_sQ, gI_sL, gI_sD, gR_sI, gR_sA, gR_sQ, gR_sL, gR_sD, gA_sI, gA_sR, gA_sQ, gA_sL, gA_sD, gQ_sI, gQ_sR, gQ_sA, gQ_sL, gQ_sD, gL_sI, gL_sR, gL_sA, gL_sQ, gL_sD]; assumption) | simp [kd_sI, kd_sR, kd_sA, kd_sQ, kd_sL, kd_sD, ln_sI, ln_sR, ln_sA, ln_sQ, ln_sL, ln_sD, gI_sR, gI_sA, gI_sQ, gI_sL, gI_sD, gR_sI, gR_sA, gR_sQ, gR_sL, gR_sD, gA_sI, gA_sR, gA_sQ, gA_sL, gA_sD, gQ_sI, gQ_sR, gQ_sA, gQ_sL, gQ_sD, gL_sI, gL_sR, gL_sA, gL_sQ, gL_sD, kd_nO, kd_nA, *]) (by first | decide | assumption) (by first | assumption | exact gI_sIs | exact gR_sRs | with_reducible rfl | (simp only [kd_sI, kd_sR, kd_sA, kd_sQ, kd_sL, kd_sD, ln_sI, ln_sR, ln_sA, ln_sQ, ln_sL, ln_sD, gI_sR, gI_sA, gI_sQ, gI_sL, gI_sD, gR_sI, gR_sA, gR_sQ, gR_sL, gR_sD, gA_sI, gA_sR, gA_sQ, gA_sL, gA_sD, gQ_sI, gQ_sR, gQ_sA, gQ_sL, gQ_sD, gL_sI, gL_sR, gL_sA, gL_sQ, gL_sD]; first | done | assumption | with_reducible rfl) | rfl) (by first | with_reducible rfl | assumption | (simp only [nI_add, pk_mul, nI_1]; with_reducible rfl)) (by first | assumption | omega) (by first | assumption | omega) (by first | assumption | exact gI_sIs | exact gR_sRs | with_reducible rfl | (simp only [kd_sI, kd_sR, kd_sA, kd_sQ, kd_sL, kd_sD, ln_sI, ln_sR, ln_sA, ln_sQ, ln_sL, ln_sD, gI_sR, gI_sA, gI_sQ, gI_sL, gI_sD, gR_sI, gR_sA, gR_sQ, gR_sL, gR_sD, gA_sI, gA_sR, gA_sQ, gA_sL, gA_sD, gQ_sI, gQ_sR, gQ_sA, gQ_sL, gQ_sD, gL_sI, gL_sR, gL_sA, gL_sQ, gL_sD]; first | done | assumption | with_reducible rfl) | rfl) ?_
  refine r_areturn dJ5_elementAt_3 rfl (by first | exact Or.inl ⟨_, rfl⟩ | exact Or.inr ⟨_, rfl⟩) ?_
  exact hQ
theorem s_dqAdd {x : Nat} (hd : 1 ≤ d) (h : DQ G H D n xs e hd0) (hn : n < 8) (hx : isObj G H x) (hQ : ∀ H', Ks (SL D e) H H' → DQ G H' D (n + 1) (va_up xs n x) e hd0 → Qr none H') : AMet G d 0 0 yJ5_addLast wJ5_addLast H [vR (some D), vR (some x)] Qr Qx := by
  obtain ⟨z1, a2, a3, a4, a5, a6, a7, a8, a9, a10⟩ := h
  have hDe : D ≠ e := ne_of_kd z1 a3 (by decide)
  have ht : (hd0 + n) % 17 < 17 := Nat.mod_lt _ (by decide)
  obtain ⟨t, het⟩ : ∃ t, (hd0 + n) % 17 = t := ⟨_, rfl⟩
  rw [het] at a7 ht
  refine AMet.of (M := mJ5_addLast) (maxL := 3) (by first | rfl | decide +kernel) rfl (Nat.le_of_ble_eq_true rfl) ?_
  show AW mJ5_addLast _ _ _ _ _ _ _ 0 [some (vR (some D)), some (vR (some x)), none] []
  refine r_aload_n (i := 1) dJ5_addLast_0 rfl rfl ?_
  refine r_ifnonnull (tgt := 12) dJ5_addLast_1 (by decide) (fun a1 h1 => ?_) (fun h1 => ?_)
  · refine r_aload_n (i := 0) dJ5_addLast_12 rfl rfl ?_
    refine r_getR dJ5_addLast_13 fR_J5_3 (by first | assumption | (simp only [kd_sI, kd_sR, kd_sA, kd_sQ, kd_sL, kd_sD, ln_sI, ln_sR, ln_sA, ln_sQ, ln_sL, ln_sD, gI_sR, gI_sA, gI_sQ, gI_sL, gI_sD, gR_sI, gR_sA, gR_sQ, gR_sL, gR_sD, gA_sI, gA_sR, gA_sQ, gA_sL, gA_sD, gQ_sI, gQ_sR, gQ_sA, gQ_sL, gQ_sD, gL_sI, gL_sR, gL_sA, gL_sQ, gL_sD]; assumption) | simp [kd_sI, kd_sR, kd_sA, kd_sQ, kd_sL, kd_sD, ln_sI, ln_sR, ln_sA, ln_sQ, ln_sL, ln_sD, gI_sR, gI_sA, gI_sQ, gI_sL, gI_sD, gR_sI, gR_sA, gR_sQ, gR_sL, gR_sD, gA_sI, gA_sR, gA_sQ, gA_sL, gA_sD, gQ_sI, gQ_sR, gQ_sA, gQ_sL, gQ_sD, gL_sI, gL_sR, gL_sA, gL_sQ, gL_sD, kd_nO, kd_nA, *]) (by first | assumption | exact gI_sIs | exact gR_sRs | with_reducible rfl | (simp only [kd_sI, kd_sR, kd_sA, kd_sQ, kd_sL, kd_sD, ln_sI, ln_sR, ln_sA, ln_sQ, ln_sL, ln_sD, gI_sR, gI_sA, gI_sQ, gI_sL, gI_sD, gR_sI, gR_sA, gR_sQ, gR_sL, gR_sD, gA_sI, gA_sR, gA_sQ, gA_sL, gA_sD, gQ_sI, gQ_sR, gQ_sA, gQ_sL, gQ_sD, gL_sI, gL_sR, gL_sA, gL_sQ, gL_sD]; first | done | assumption | with_reducible rfl) | rfl) ?_
    refine r_astore_n (i := 2) dJ5_addLast_16 rfl (Nat.le_of_ble_eq_true rfl) (by simp only [lset]; rfl) ?_
    refine r_aload_n (i := 2) dJ5_addLast_17 rfl rfl ?_
    refine r_aload_n (i := 0) dJ5_addLast_18 rfl rfl ?_
    refine r_getI dJ5_addLast_19 fR_J5_20 (by first | assumption | (simp only [kd_sI, kd_sR, kd_sA, kd_sQ, kd_sL, kd_sD, ln_sI, ln_sR, ln_sA, ln_sQ, ln_sL, ln_sD, gI_sR, gI_sA, gI_sQ, gI_sL, gI_sD, gR_sI, gR_sA, gR_sQ, gR_sL, gR_sD, gA_sI, gA_sR, gA_sQ, gA_sL, gA_sD, gQ_sI, gQ_sR, gQ_sA, gQ_sL, gQ_sD, gL_sI, gL_sR, gL_sA, gL_sQ, gL_sD]; assumption) | simp [kd_sI, kd_sR, kd_sA, kd_sQ, kd_sL, kd_sD, ln_sI, ln_sR, ln_sA, ln_sQ, ln_sL, ln_sD, gI_sR, gI_sA, gI_sQ, gI_sL, gI_sD, gR_sI, gR_sA, gR_sQ, gR_sL, gR_sD, gA_sI, gA_sR, gA_sQ, gA_sL, gA_sD, gQ_sI, gQ_sR, gQ_sA, gQ_sL, gQ_sD, gL_sI, gL_sR, gL_sA, gL_sQ, gL_sD, kd_nO, kd_nA, *]) (by first | assumption | exact gI_sIs | exact gR_sRs | with_reducible rfl | (simp only [kd_sI, kd_sR, kd_sA, kd_sQ, kd_sL, kd_sD, ln_sI, ln_sR, ln_sA, ln_sQ, ln_sL, ln_sD, gI_sR, gI_sA, gI_sQ, gI_sL, gI_sD, gR_sI, gR_sA, gR_sQ, gR_sL, gR_sD, gA_sI, gA_sR, gA_sQ, gA_sL, gA_sD, gQ_sI, gQ_sR, gQ_sA, gQ_sL, gQ_sD, gL_sI, gL_sR, gL_sA, gL_sQ, gL_sD]; first | done | assumption | with_reducible rfl) | rfl) ?_
    refine r_aload_n (i := 1) dJ5_addLast_22 rfl rfl ?_
    refine r_qast dJ5_addLast_23 (by first | assumption | (simp only [kd_sI, kd_sR, kd_sA, kd_sQ, kd_sL, kd_sD, ln_sI, ln_sR, ln_sA, ln_sQ, ln_sL, ln_sD, gI_sR, gI_sA, gI_sQ, gI_sL, gI_sD, gR_sI, gR_sA, gR_sQ, gR_sL, gR_sD, gA_sI, gA_sR, gA_sQ, gA_sL, gA_sD, gQ_sI, gQ_sR, gQ_sA, gQ_sL, gQ_sD, gL_sI, gL_sR, gL_sA, gL_sQ, gL_sD]; assumption) | simp [kd_sI, kd_sR, kd_sA, kd_sQ, kd_sL, kd_sD, ln_sI, ln_sR, ln_sA, ln_sQ, ln_sL, ln_sD, gI_sR, gI_sA, gI_sQ, gI_sL, gI_sD, gR_sI, gR_sA, gR_sQ, gR_sL, gR_sD, gA_sI, gA_sR, gA_sQ, gA_sL, gA_sD, gQ_sI, gQ_sR, gQ_sA, gQ_sL, gQ_sD, gL_sI, gL_sR, gL_sA, gL_sQ, gL_sD, kd_nO, kd_nA, *]) (by decide) (by first | assumption | exact gI_sIs | exact gR_sRs | with_reducible rfl | (simp only [kd_sI, kd_sR, kd_sA, kd_sQ, kd_sL, kd_sD, ln_sI, ln_sR, ln_sA, ln_sQ, ln_sL, ln_sD, gI_sR, gI_sA, gI_sQ, gI_sL, gI_sD, gR_sI, gR_sA, gR_sQ, gR_sL, gR_sD, gA_sI, gA_sR, gA_sQ, gA_sL, gA_sD, gQ_sI, gQ_sR, gQ_sA, gQ_sL, gQ_sD, gL_sI, gL_sR, gL_sA, gL_sQ, gL_sD]; first | done | assumption | with_reducible rfl) | rfl) (by first | with_reducible rfl | assumption | (simp only [nI_add, pk_mul, nI_1]; with_reducible rfl)) (by first | assumption | omega) (by first | assumption | omega) ?_ ?_
    · intro b hb
      cases hb
      exact hx
    · refine r_aload_n (i := 0) dJ5_addLast_24 rfl rfl ?_
      refine r_getI dJ5_addLast_25 fR_J5_24 (by first | assumption | (simp only [kd_sI, kd_sR, kd_sA, kd_sQ, kd_sL, kd_sD, ln_sI, ln_sR, ln_sA, ln_sQ, ln_sL, ln_sD, gI_sR, gI_sA, gI_sQ, gI_sL, gI_sD, gR_sI, gR_sA, gR_sQ, gR_sL, gR_sD, gA_sI, gA_sR, gA_sQ, gA_sL, gA_sD, gQ_sI, gQ_sR, gQ_sA, gQ_sL, gQ_sD, gL_sI, gL_sR, gL_sA, gL_sQ, gL_sD]; assumption) | simp [kd_sI, kd_sR, kd_sA, kd_sQ, kd_sL, kd_sD, ln_sI, ln_sR, ln_sA, ln_sQ, ln_sL, ln_sD, gI_sR, gI_sA, gI_sQ, gI_sL, gI_sD, gR_sI, gR_sA, gR_sQ, gR_sL, gR_sD, gA_sI, gA_sR, gA_sQ, gA_sL, gA_sD, gQ_sI, gQ_sR, gQ_sA, gQ_sL, gQ_sD, gL_sI, gL_sR, gL_sA, gL_sQ, gL_sD, kd_nO, kd_nA, *]) (by first | assumption | exact gI_sIs | exact gR_sRs | with_reducible rfl | (simp only [kd_sI, kd_sR, kd_sA, kd_sQ, kd_sL, kd_sD, ln_sI, ln_sR, ln_sA, ln_sQ, ln_sL, ln_sD, gI_sR, gI_sA, gI_sQ, gI_sL, gI_sD, gR_sI, gR_sA, gR_sQ, gR_sL, gR_sD, gA_sI, gA_sR, gA_sQ, gA_sL, gA_sD, gQ_sI, gQ_sR, gQ_sA, gQ_sL, gQ_sD, gL_sI, gL_sR, gL_sA, gL_sQ, gL_sD]; first | done | assumption | with_reducible rfl) | rfl) ?_
      refine r_aload_n (i := 0) dJ5_addLast_28 rfl rfl ?_
      refine r_aload_n (i := 0) dJ5_addLast_29 rfl rfl ?_
      refine r_getI dJ5_addLast_30 fR_J5_20 (by first | assumption | (simp only [kd_sI, kd_sR, kd_sA, kd_sQ, kd_sL, kd_sD, ln_sI, ln_sR, ln_sA, ln_sQ, ln_sL, ln_sD, gI_sR, gI_sA, gI_sQ, gI_sL, gI_sD, gR_sI, gR_sA, gR_sQ, gR_sL, gR_sD, gA_sI, gA_sR, gA_sQ, gA_sL, gA_sD, gQ_sI, gQ_sR, gQ_sA, gQ_sL, gQ_sD, gL_sI, gL_sR, gL_sA, gL_sQ, gL_sD]; assumption) | simp [kd_sI, kd_sR, kd_sA, kd_sQ, kd_sL, kd_sD, ln_sI, ln_sR, ln_sA, ln_sQ, ln_sL, ln_sD, gI_sR, gI_sA, gI_sQ, gI_sL, gI_sD, gR_sI, gR_sA, gR_sQ, gR_sL, gR_sD, gA_sI, gA_sR, gA_sQ, gA_sL, gA_sD, gQ_sI, gQ_sR, gQ_sA, gQ_sL, gQ_sD, gL_sI, gL_sR, gL_sA, gL_sQ, gL_sD, kd_nO, kd_nA, *]) (by first | assumption | exact gI_sIs | exact gR_sRs | with_reducible rfl | (simp only [kd_sI, kd_sR, kd_sA, kd_sQ, kd_sL, kd_sD, ln_sI, ln_sR, ln_sA, ln_sQ, ln_sL, ln_sD, gI_sR, gI_sA, gI_sQ, gI_sL, gI_sD, gR_sI, gR_sA, gR_sQ, gR_sL, gR_sD, gA_sI, gA_sR, gA_sQ, gA_sL, gA_sD, gQ_sI, gQ_sR, gQ_sA, gQ_sL, gQ_sD, gL_sI, gL_sR, gL_sA, gL_sQ, gL_sD]; first | done | assumption | with_reducible rfl) | rfl) ?_
      refine r_aload_n (i := 2) dJ5_addLast_33 rfl rfl ?_
      refine r_alen dJ5_addLast_34 (by first | (refine ⟨?_, ?_⟩ <;> simp [kd_sI, kd_sR, kd_sA, kd_sQ, kd_sL, kd_sD, ln_sI, ln_sR, ln_sA, ln_sQ, ln_sL, ln_sD, gI_sR, gI_sA, gI_sQ, gI_sL, gI_sD, gR_sI, gR_sA, gR_sQ, gR_sL, gR_sD, gA_sI, gA_sR, gA_sQ, gA_sL, gA_sD, gQ_sI, gQ_sR, gQ_sA, gQ_sL, gQ_sD, gL_sI, gL_sR, gL_sA, gL_sQ, gL_sD, *]; done) | omega) (by first | assumption | exact gI_sIs | exact gR_sRs | with_reducible rfl | (simp only [kd_sI, kd_sR, kd_sA, kd_sQ, kd_sL, kd_sD, ln_sI, ln_sR, ln_sA, ln_sQ, ln_sL, ln_sD, gI_sR, gI_sA, gI_sQ, gI_sL, gI_sD, gR_sI, gR_sA, gR_sQ, gR_sL, gR_sD, gA_sI, gA_sR, gA_sQ, gA_sL, gA_sD, gQ_sI, gQ_sR, gQ_sA, gQ_sL, gQ_sD, gL_sI, gL_sR, gL_sA, gL_sQ, gL_sD]; first | done | assumption | with_reducible rfl) | rfl) ?_
      refine r_callS (As := [_, _]) (mc' := 0) (ms' := 0) dJ5_addLast_35 k_J5_74 rfl (by first | assumption | omega) (by first | assumption | omega) (by first | assumption | omega) (Nat.le_of_ble_eq_true rfl) ?_
      refine s_dqInc ht ?_
      show AW mJ5_addLast G d Qr Qx _ _ _ 38 _ _
      have e2 : (t + 1) % 17 = (hd0 + (n + 1)) % 17 := by omega
      rw [e2]
      refine r_dup_x1 dJ5_addLast_38 rfl rfl ?_
      refine r_putI dJ5_addLast_39 fG_J5_20 (fun _ => by first | rfl | contradiction) (by first | assumption | (simp only [kd_sI, kd_sR, kd_sA, kd_sQ, kd_sL, kd_sD, ln_sI, ln_sR, ln_sA, ln_sQ, ln_sL, ln_sD, gI_sR, gI_sA, gI_sQ, gI_sL, gI_sD, gR_sI, gR_sA, gR_sQ, gR_sL, gR_sD, gA_sI, gA_sR, gA_sQ, gA_sL, gA_sD, gQ_sI, gQ_sR, gQ_sA, gQ_sL, gQ_sD, gL_sI, gL_sR, gL_sA, gL_sQ, gL_sD]; assumption) | simp [kd_sI, kd_sR, kd_sA, kd_sQ, kd_sL, kd_sD, ln_sI, ln_sR, ln_sA, ln_sQ, ln_sL, ln_sD, gI_sR, gI_sA, gI_sQ, gI_sL, gI_sD, gR_sI, gR_sA, gR_sQ, gR_sL, gR_sD, gA_sI, gA_sR, gA_sQ, gA_sL, gA_sD, gQ_sI, gQ_sR, gQ_sA, gQ_sL, gQ_sD, gL_sI, gL_sR, gL_sA, gL_sQ, gL_sD, kd_nO, kd_nA, *]) (by first | rfl | assumption) (by first | rfl | assumption) ?_
      refine r_icmp_ne (tgt := 50) dJ5_addLast_42 (by decide) (fun h42 => ?_) (fun h42 => ?_)
      · refine r_return dJ5_addLast_50 rfl ?_
        have hK : Ks (SL D e) H (sI (sQ H 4106 e (va_up (gQ H 4106 e) t (some x))) 108 D (nI ((hd0 + (n + 1)) % 17))) := (Ks.rf.sQ (fun _ => Or.inr rfl)).sI (fun _ => Or.inl rfl)
        refine hQ _ hK ⟨z1, a2, a3, a4, a5, ?_, gI_sIs, by omega, fun i hi => ?_, fun i hi => ?_⟩
        · rw [gI_sIn (by decide)]
          exact a6
        · show gQ (sQ H 4106 e _) 4106 e _ = _
          rw [gQ_sQs]
          unfold va_up
          by_cases hin : i = n
          · subst hin
            rw [if_pos het, if_pos rfl]
          · rw [if_neg (by omega), if_neg hin]
            exact a9 i (by omega)
        · unfold va_up
          split
          · exact hx.ks hK
          · exact (a10 i (by omega)).ks hK
      · exact absurd h42 (nI_ne (by omega) (by omega) (by omega))
  · cases h1
theorem s_dqPollF (hd : 1 ≤ d) (h : DQ G H D n xs e hd0) (hn : 0 < n) (hQ : ∀ H', Ks (SL D e) H H' → DQ G H' D (n - 1) (fun i => xs (i + 1)) e ((hd0 + 1) % 17) → Qr (some (vR (some (xs 0)))) H') : AMet G d 0 0 yJ5_pollFirst wJ5_pollFirst H [vR (some D)] Qr Qx := by
  obtain ⟨a1, a2, a3, a4, a5, a6, a7, a8, a9, a10⟩ := h
  have hDe : D ≠ e := ne_of_kd a1 a3 (by decide)
  have h0 := a9 0 hn
  rw [Nat.add_zero, Nat.mod_eq_of_lt a5] at h0
  refine AMet.of (M := mJ5_pollFirst) (maxL := 4) (by first | rfl | decide +kernel) rfl (Nat.le_of_ble_eq_true rfl) ?_
  show AW mJ5_pollFirst _ _ _ _ _ _ _ 0 [some (vR (some D)), none, none, none] []
  refine r_aload_n (i := 0) dJ5_pollFirst_0 rfl rfl ?_
  refine r_getR dJ5_pollFirst_1 fR_J5_3 (by first | assumption | (simp only [kd_sI, kd_sR, kd_sA, kd_sQ, kd_sL, kd_sD, ln_sI, ln_sR, ln_sA, ln_sQ, ln_sL, ln_sD, gI_sR, gI_sA, gI_sQ, gI_sL, gI_sD, gR_sI, gR_sA, gR_sQ, gR_sL, gR_sD, gA_sI, gA_sR, gA_sQ, gA_sL, gA_sD, gQ_sI, gQ_sR, gQ_sA, gQ_sL, gQ_sD, gL_sI, gL_sR, gL_sA, gL_sQ, gL_sD]; assumption) | simp [kd_sI, kd_sR, kd_sA, kd_sQ, kd_sL, kd_sD, ln_sI, ln_sR, ln_sA, ln_sQ, ln_sL, ln_sD, gI_sR, gI_sA, gI_sQ, gI_sL, gI_sD, gR_sI, gR_sA, gR_sQ, gR_sL, gR_sD, gA_sI, gA_sR, gA_sQ, gA_sL, gA_sD, gQ_sI, gQ_sR, gQ_sA, gQ_sL, gQ_sD, gL_sI, gL_sR, gL_sA, gL_sQ, gL_sD, kd_nO, kd_nA, *]) (by first | assumption | exact gI_sIs | exact gR_sRs | with_reducible rfl | (simp only [kd_sI, kd_sR, kd_sA, kd_sQ, kd_sL, kd_sD, ln_sI, ln_sR, ln_sA, ln_sQ, ln_sL, ln_sD, gI_sR, gI_sA, gI_sQ, gI_sL, gI_sD, gR_sI, gR_sA, gR_sQ, gR_sL, gR_sD, gA_sI, gA_sR, gA_sQ, gA_sL, gA_sD, gQ_sI, gQ_sR, gQ_sA, gQ_sL, gQ_sD, gL_sI, gL_sR, gL_sA, gL_sQ, gL_sD]; first | done | assumption | with_reducible rfl) | rfl) ?_
  refine r_dup dJ5_pollFirst_4 rfl ?_
  refine r_astore_n (i := 1) dJ5_pollFirst_5 rfl (Nat.le_of_ble_eq_true rfl) (by simp only [lset]; rfl) ?_
  refine r_aload_n (i := 0) dJ5_pollFirst_6 rfl rfl ?_
  refine r_getI dJ5_pollFirst_7 fR_J5_24 (by first | assumption | (simp only [kd_sI, kd_sR, kd_sA, kd_sQ, kd_sL, kd_sD, ln_sI, ln_sR, ln_sA, ln_sQ, ln_sL, ln_sD, gI_sR, gI_sA, gI_sQ, gI_sL, gI_sD, gR_sI, gR_sA, gR_sQ, gR_sL, gR_sD, gA_sI, gA_sR, gA_sQ, gA_sL, gA_sD, gQ_sI, gQ_sR, gQ_sA, gQ_sL, gQ_sD, gL_sI, gL_sR, gL_sA, gL_sQ, gL_sD]; assumption) | simp [kd_sI, kd_sR, kd_sA, kd_sQ, kd_sL, kd_sD, ln_sI, ln_sR, ln_sA, ln_sQ, ln_sL, ln_sD, gI_sR, gI_sA, gI_sQ, gI_sL, gI_sD, gR_sI, gR_sA, gR_sQ, gR_sL, gR_sD, gA_sI, gA_sR, gA_sQ, gA_sL, gA_sD, gQ_sI, gQ_sR, gQ_sA, gQ_sL, gQ_sD, gL_sI, gL_sR, gL_sA, gL_sQ, gL_sD, kd_nO, kd_nA, *]) (by first | assumption | exact gI_sIs | exact gR_sRs | with_reducible rfl | (simp only [kd_sI, kd_sR, kd_sA, kd_sQ, kd_sL, kd_sD, ln_sI, ln_sR, ln_sA, ln_sQ, ln_sL, ln_sD, gI_sR, gI_sA, gI_sQ, gI_sL, gI_sD, gR_sI, gR_sA, gR_sQ, gR_sL, gR_sD, gA_sI, gA_sR, gA_sQ, gA_sL, gA_sD, gQ_sI, gQ_sR, gQ_sA, gQ_sL, gQ_sD, gL_sI, gL_sR, gL_sA, gL_sQ, gL_sD]; first | done | assumption | with_reducible rfl) | rfl) ?_
  refine r_dup dJ5_pollFirst_10 rfl ?_
  refine r_istore_n (i := 2) dJ5_pollFirst_11 rfl (Nat.le_of_ble_eq_true rfl) (by simp only [lset]; rfl) ?_
  refine r_callS (As := [_, _]) (mc' := 0) (ms' := 0) dJ5_pollFirst_12 k_J5_103 rfl (by first | assumption | omega) (by first | assumption | omega) (by first | assumption | omega) (Nat.le_of_ble_eq_true rfl) ?_
  refine s_dqAt a3 a4 a5 h0 ?_
  show AW mJ5_pollFirst G d Qr Qx _ _ _ 15 _ _
  refine r_astore_n (i := 3) dJ5_pollFirst_15 rfl (Nat.le_of_ble_eq_true rfl) (by simp only [lset]; rfl) ?_
  refine r_aload_n (i := 3) dJ5_pollFirst_16 rfl rfl ?_
  refine r_ifnull (tgt := 34) dJ5_pollFirst_17 (by decide) (fun h17 => ?_) (fun a17 h17 => ?_)
  · cases h17
  · refine r_aload_n (i := 1) dJ5_pollFirst_20 rfl rfl ?_
    refine r_iload_n (i := 2) dJ5_pollFirst_21 rfl rfl ?_
    refine r_null dJ5_pollFirst_22 ?_
    refine r_qast dJ5_pollFirst_23 (by first | assumption | (simp only [kd_sI, kd_sR, kd_sA, kd_sQ, kd_sL, kd_sD, ln_sI, ln_sR, ln_sA, ln_sQ, ln_sL, ln_sD, gI_sR, gI_sA, gI_sQ, gI_sL, gI_sD, gR_sI, gR_sA, gR_sQ, gR_sL, gR_sD, gA_sI, gA_sR, gA_sQ, gA_sL, gA_sD, gQ_sI, gQ_sR, gQ_sA, gQ_sL, gQ_sD, gL_sI, gL_sR, gL_sA, gL_sQ, gL_sD]; assumption) | simp [kd_sI, kd_sR, kd_sA, kd_sQ, kd_sL, kd_sD, ln_sI, ln_sR, ln_sA, ln_sQ, ln_sL, ln_sD, gI_sR, gI_sA, gI_sQ, gI_sL, gI_sD, gR_sI, gR_sA, gR_sQ, gR_sL, gR_sD, gA_sI, gA_sR, gA_sQ, gA_sL, gA_sD, gQ_sI, gQ_sR, gQ_sA, gQ_sL, gQ_sD, gL_sI, gL_sR, gL_sA, gL_sQ, gL_sD, kd_nO, kd_nA, *]) (by decide) (by first | assumption | exact gI_sIs | exact gR_sRs | with_reducible rfl | (simp only [kd_sI, kd_sR, kd_sA, kd_sQ, kd_sL, kd_sD, ln_sI, ln_sR, ln_sA, ln_sQ, ln_sL, ln_sD, gI_sR, gI_sA, gI_sQ, gI_sL, gI_sD, gR_sI, gR_sA, gR_sQ, gR_sL, gR_sD, gA_sI, gA_sR, gA_sQ, gA_sL, gA_sD, gQ_sI, gQ_sR, gQ_sA, gQ_sL, gQ_sD, gL_sI, gL_sR, gL_sA, gL_sQ, gL_sD]; first | done | assumption | with_reducible rfl) | rfl) (by first | with_reducible rfl | assumption | (simp only [nI_add, pk_mul, nI_1]; with_reducible rfl)) (by first | assumption | omega) (by first | assumption | omega) ?_ ?_
    · intro b hb
      cases hb
    · refine r_aload_n (i := 0) dJ5_pollFirst_24 rfl rfl ?_
      refine r_iload_n (i := 2) dJ5_pollFirst_25 rfl rfl ?_
      refine r_aload_n (i := 1) dJ5_pollFirst_26 rfl rfl ?_
      refine r_alen dJ5_pollFirst_27 (by first | (refine ⟨?_, ?_⟩ <;> simp [kd_sI, kd_sR, kd_sA, kd_sQ, kd_sL, kd_sD, ln_sI, ln_sR, ln_sA, ln_sQ, ln_sL, ln_sD, gI_sR, gI_sA, gI_sQ, gI_sL, gI_sD, gR_sI, gR_sA, gR_sQ, gR_sL, gR_sD, gA_sI, gA_sR, gA_sQ, gA_sL, gA_sD, gQ_sI, gQ_sR, gQ_sA, gQ_sL, gQ_sD, gL_sI, gL_sR, gL_sA, gL_sQ, gL_sD, *]; done) | omega) (by first | assumption | exact gI_sIs | exact gR_sRs | with_reducible rfl | (simp only [kd_sI, kd_sR, kd_sA, kd_sQ, kd_sL, kd_sD, ln_sI, ln_sR, ln_sA, ln_sQ, ln_sL, ln_sD, gI_sR, gI_sA, gI_sQ, gI_sL, gI_sD, gR_sI, gR_sA, gR_sQ, gR_sL, gR_sD, gA_sI, gA_sR, gA_sQ, gA_sL, gA_sD, gQ_sI, gQ_sR, gQ_sA, gQ_sL, gQ_sD, gL_sI, gL_sR, gL_sA, gL_sQ, gL_sD]; first | done | assumption | with_reducible rfl) | rfl) ?_
      refine r_callS (As := [_, _]) (mc' := 0) (ms' := 0) dJ5_pollFirst_28 k_J5_74 rfl (by first | assumption | omega) (by first | assumption | omega) (by first | assumption | omega) (Nat.le_of_ble_eq_true rfl) ?_
      refine s_dqInc a5 ?_
      show AW mJ5_pollFirst G d Qr Qx _ _ _ 31 _ _
      refine r_putI dJ5_pollFirst_31 fG_J5_24 (fun _ => by first | rfl | contradiction) (by first | assumption | (simp only [kd_sI, kd_sR, kd_sA, kd_sQ, kd_sL, kd_sD, ln_sI, ln_sR, ln_sA, ln_sQ, ln_sL, ln_sD, gI_sR, gI_sA, gI_sQ, gI_sL, gI_sD, gR_sI, gR_sA, gR_sQ, gR_sL, gR_sD, gA_sI, gA_sR, gA_sQ, gA_sL, gA_sD, gQ_sI, gQ_sR, gQ_sA, gQ_sL, gQ_sD, gL_sI, gL_sR, gL_sA, gL_sQ, gL_sD]; assumption) | simp [kd_sI, kd_sR, kd_sA, kd_sQ, kd_sL, kd_sD, ln_sI, ln_sR, ln_sA, ln_sQ, ln_sL, ln_sD, gI_sR, gI_sA, gI_sQ, gI_sL, gI_sD, gR_sI, gR_sA, gR_sQ, gR_sL, gR_sD, gA_sI, gA_sR, gA_sQ, gA_sL, gA_sD, gQ_sI, gQ_sR, gQ_sA, gQ_sL, gQ_sD, gL_sI, gL_sR, gL_sA, gL_sQ, gL_sD, kd_nO, kd_nA, *]) (by first | rfl | assumption) (by first | rfl | assumption) ?_
      refine r_aload_n (i := 3) dJ5_pollFirst_34 rfl rfl ?_
      refine r_areturn dJ5_pollFirst_35 rfl (by first | exact Or.inl ⟨_, rfl⟩ | exact Or.inr ⟨_, rfl⟩) ?_
      have hK : Ks (SL D e) H (sI (sQ H 4106 e (va_up (gQ H 4106 e) hd0 none)) 107 D (nI ((hd0 + 1) % 17))) := (Ks.rf.sQ (fun _ => Or.inr rfl)).sI (fun _ => Or.inl rfl)
      refine hQ _ hK ⟨a1, a2, a3, a4, Nat.mod_lt _ (by decide), gI_sIs, ?_, by omega, fun i hi => ?_, fun i hi => (a10 (i + 1) (by omega)).ks hK⟩
      · rw [gI_sIn (by decide)]
        show gI H 108 D = _
        rw [a7]
        congr 1
        omega
      · show gQ (sQ H 4106 e _) 4106 e _ = _
        rw [gQ_sQs]
        unfold va_up
        rw [if_neg (by omega), show ((hd0 + 1) % 17 + i) % 17 = (hd0 + (i + 1)) % 17 by omega]
        exact a9 (i + 1) (by omega)
theorem s_dqRemF (hd : 2 ≤ d) (h : DQ G H D n xs e hd0) (hn : 0 < n) (hQ : ∀ H', Ks (SL D e) H H' → DQ G H' D (n - 1) (fun i => xs (i + 1)) e ((hd0 + 1) % 17) → Qr (some (vR (some (xs 0)))) H') : AMet G d 0 0 yJ5_removeFirst wJ5_removeFirst H [vR (some D)] Qr Qx := by
  have a1 := h.1
  refine AMet.of (M := mJ5_removeFirst) (maxL := 2) (by first | rfl | decide +kernel) rfl (Nat.le_of_ble_eq_true rfl) ?_
  show AW mJ5_removeFirst _ _ _ _ _ _ _ 0 [some (vR (some D)), none] []
  refine r_aload_n (i := 0) dJ5_removeFirst_0 rfl rfl ?_
  refine r_callV (As := []) (mc' := 0) (ms' := 0) dJ5_removeFirst_1 k_J5_93 rfl (by first | assumption | (simp only [kd_sI, kd_sR, kd_sA, kd_sQ, kd_sL, kd_sD, ln_sI, ln_sR, ln_sA, ln_sQ, ln_sL, ln_sD, gI_sR, gI_sA, gI_sQ, gI_sL, gI_sD, gR_sI, gR_sA, gR_sQ, gR_sL, gR_sD, gA_sI, gA_sR, gA_sQ, gA_sL, gA_sD, gQ_sI, gQ_sR, gQ_sA, gQ_sL, gQ_sD, gL_sI, gL_sR, gL_sA, gL_sQ, gL_sD]; assumption) | simp [kd_sI, kd_sR, kd_sA, kd_sQ, kd_sL, kd_sD, ln_sI, ln_sR, ln_sA, ln_sQ, ln_sL, ln_sD, gI_sR, gI_sA, gI_sQ, gI_sL, gI_sD, gR_sI, gR_sA, gR_sQ, gR_sL, gR_sD, gA_sI, gA_sR, gA_sQ, gA_sL, gA_sD, gQ_sI, gQ_sR, gQ_sA, gQ_sL, gQ_sD, gL_sI, gL_sR, gL_sA, gL_sQ, gL_sD, kd_nO, kd_nA, *]) (T := TJ5) (N := 3) rfl (by first | assumption | omega) (by first | assumption | omega) (by first | assumption | omega) (Nat.le_of_ble_eq_true rfl) ?_
  refine s_dqPollF (by omega) h hn (fun H' hK hq => ?_)
  show AW mJ5_removeFirst G d Qr Qx _ _ _ 4 _ _
  refine r_astore_n (i := 1) dJ5_removeFirst_4 rfl (Nat.le_of_ble_eq_true rfl) (by simp only [lset]; rfl) ?_
  refine r_aload_n (i := 1) dJ5_removeFirst_5 rfl rfl ?_
  refine r_ifnonnull (tgt := 17) dJ5_removeFirst_6 (by decide) (fun a6 h6 => ?_) (fun h6 => ?_)
  · refine r_aload_n (i := 1) dJ5_removeFirst_17 rfl rfl ?_
    refine r_areturn dJ5_removeFirst_18 rfl (by first | exact Or.inl ⟨_, rfl⟩ | exact Or.inr ⟨_, rfl⟩) ?_
    exact hQ H' hK hq
  · cases h6
theorem s_dqPollL (hd : 1 ≤ d) (h : DQ G H D n xs e hd0) (hn : 0 < n) (hQ : ∀ H', Ks (SL D e) H H' → DQ G H' D (n - 1) xs e hd0 → Qr (some (vR (some (xs (n - 1))))) H') : AMet G d 0 0 yJ5_pollLast wJ5_pollLast H [vR (some D)] Qr Qx := by
  obtain ⟨a1, a2, a3, a4, a5, a6, a7, a8, a9, a10⟩ := h
  have hDe : D ≠ e := ne_of_kd a1 a3 (by decide)
  have h0 := a9 (n - 1) (by omega)
  have ht : (hd0 + (n - 1)) % 17 < 17 := Nat.mod_lt _ (by decide)
  have e2 : ((hd0 + n) % 17 + 16) % 17 = (hd0 + (n - 1)) % 17 := by omega
  obtain ⟨t, het⟩ : ∃ t, (hd0 + (n - 1)) % 17 = t := ⟨_, rfl⟩
  rw [het] at h0 ht e2
  refine AMet.of (M := mJ5_pollLast) (maxL := 4) (by first | rfl | decide +kernel) rfl (Nat.le_of_ble_eq_true rfl) ?_
  show AW mJ5_pollLast _ _ _ _ _ _ _ 0 [some (vR (some D)), none, none, none] []
  refine r_aload_n (i := 0) dJ5_pollLast_0 rfl rfl ?_
  refine r_getR dJ5_pollLast_1 fR_J5_3 (by first | assumption | (simp only [kd_sI, kd_sR, kd_sA, kd_sQ, kd_sL, kd_sD, ln_sI, ln_sR, ln_sA, ln_sQ, ln_sL, ln_sD, gI_sR, gI_sA, gI_sQ, gI_sL, gI_sD, gR_sI, gR_sA, gR_sQ, gR_sL, gR_sD, gA_sI, gA_sR, gA_sQ, gA_sL, gA_sD, gQ_sI, gQ_sR, gQ_sA, gQ_sL, gQ_sD, gL_sI, gL_sR, gL_sA, gL_sQ, gL_sD]; assumption) | simp [kd_sI, kd_sR, kd_sA, kd_sQ, kd_sL, kd_sD, ln_sI, ln_sR, ln_sA, ln_sQ, ln_sL, ln_sD, gI_sR, gI_sA, gI_sQ, gI_sL, gI_sD, gR_sI, gR_sA, gR_sQ, gR_sL, gR_sD, gA_sI, gA_sR, gA_sQ, gA_sL, gA_sD, gQ_sI, gQ_sR, gQ_sA, gQ_sL, gQ_sD, gL_sI, gL_sR, gL_sA, gL_sQ, gL_sD, kd_nO, kd_nA, *]) (by first | assumption | exact gI_sIs | exact gR_sRs | with_reducible rfl | (simp only [kd_sI, kd_sR, kd_sA, kd_sQ, kd_sL, kd_sD, ln_sI, ln_sR, ln_sA, ln_sQ, ln_sL, ln_sD, gI_sR, gI_sA, gI_sQ, gI_sL, gI_sD, gR_sI, gR_sA, gR_sQ, gR_sL, gR_sD, gA_sI, gA_sR, gA_sQ, gA_sL, gA_sD, gQ_sI, gQ_sR, gQ_sA, gQ_sL, gQ_sD, gL_sI, gL_sR, gL_sA, gL_sQ, gL_sD]; first | done | assumption | with_reducible rfl) | rfl) ?_
  refine r_dup dJ5_pollLast_4 rfl ?_
  refine r_astore_n (i := 1) dJ5_pollLast_5 rfl (Nat.le_of_ble_eq_true rfl) (by simp only [lset]; rfl) ?_
  refine r_aload_n (i := 0) dJ5_pollLast_6 rfl rfl ?_
  refine r_getI dJ5_pollLast_7 fR_J5_20 (by first | assumption | (simp only [kd_sI, kd_sR, kd_sA, kd_sQ, kd_sL, kd_sD, ln_sI, ln_sR, ln_sA, ln_sQ, ln_sL, ln_sD, gI_sR, gI_sA, gI_sQ, gI_sL, gI_sD, gR_sI, gR_sA, gR_sQ, gR_sL, gR_sD, gA_sI, gA_sR, gA_sQ, gA_sL, gA_sD, gQ_sI, gQ_sR, gQ_sA, gQ_sL, gQ_sD, gL_sI, gL_sR, gL_sA, gL_sQ, gL_sD]; assumption) | simp [kd_sI, kd_sR, kd_sA, kd_sQ, kd_sL, kd_sD, ln_sI, ln_sR, ln_sA, ln_sQ, ln_sL, ln_sD, gI_sR, gI_sA, gI_sQ, gI_sL, gI_sD, gR_sI, gR_sA, gR_sQ, gR_sL, gR_sD, gA_sI, gA_sR, gA_sQ, gA_sL, gA_sD, gQ_sI, gQ_sR, gQ_sA, gQ_sL, gQ_sD, gL_sI, gL_sR, gL_sA, gL_sQ, gL_sD, kd_nO, kd_nA, *]) (by first | assumption | exact gI_sIs | exact gR_sRs | with_reducible rfl | (simp only [kd_sI, kd_sR, kd_sA, kd_sQ, kd_sL, kd_sD, ln_sI, ln_sR, ln_sA, ln_sQ, ln_sL, ln_sD, gI_sR, gI_sA, gI_sQ, gI_sL, gI_sD, gR_sI, gR_sA, gR_sQ, gR_sL, gR_sD, gA_sI, gA_sR, gA_sQ, gA_sL, gA_sD, gQ_sI, gQ_sR, gQ_sA, gQ_sL, gQ_sD, gL_sI, gL_sR, gL_sA, gL_sQ, gL_sD]; first | done | assumption | with_reducible rfl) | rfl) ?_
  refine r_aload_n (i := 1) dJ5_pollLast_10 rfl rfl ?_
  refine r_alen dJ5_pollLast_11 (by first | (refine ⟨?_, ?_⟩ <;> simp [kd_sI, kd_sR, kd_sA, kd_sQ, kd_sL, kd_sD, ln_sI, ln_sR, ln_sA, ln_sQ, ln_sL, ln_sD, gI_sR, gI_sA, gI_sQ, gI_sL, gI_sD, gR_sI, gR_sA, gR_sQ, gR_sL, gR_sD, gA_sI, gA_sR, gA_sQ, gA_sL, gA_sD, gQ_sI, gQ_sR, gQ_sA, gQ_sL, gQ_sD, gL_sI, gL_sR, gL_sA, gL_sQ, gL_sD, *]; done) | omega) (by first | assumption | exact gI_sIs | exact gR_sRs | with_reducible rfl | (simp only [kd_sI, kd_sR, kd_sA, kd_sQ, kd_sL, kd_sD, ln_sI, ln_sR, ln_sA, ln_sQ, ln_sL, ln_sD, gI_sR, gI_sA, gI_sQ, gI_sL, gI_sD, gR_sI, gR_sA, gR_sQ, gR_sL, gR_sD, gA_sI, gA_sR, gA_sQ, gA_sL, gA_sD, gQ_sI, gQ_sR, gQ_sA, gQ_sL, gQ_sD, gL_sI, gL_sR, gL_sA, gL_sQ, gL_sD]; first | done | assumption | with_reducible rfl) | rfl) ?_
  refine r_callS (As := [_, _]) (mc' := 0) (ms' := 0) dJ5_pollLast_12 k_J5_68 rfl (by first | assumption | omega) (by first | assumption | omega) (by first | assumption | omega) (Nat.le_of_ble_eq_true rfl) ?_
  refine s_dqDec (Nat.mod_lt _ (by decide)) ?_
  show AW mJ5_pollLast G d Qr Qx _ _ _ 15 _ _
  rw [e2]
  refine r_dup dJ5_pollLast_15 rfl ?_
  refine r_istore_n (i := 2) dJ5_pollLast_16 rfl (Nat.le_of_ble_eq_true rfl) (by simp only [lset]; rfl) ?_
  refine r_callS (As := [_, _]) (mc' := 0) (ms' := 0) dJ5_pollLast_17 k_J5_103 rfl (by first | assumption | omega) (by first | assumption | omega) (by first | assumption | omega) (Nat.le_of_ble_eq_true rfl) ?_
  refine s_dqAt a3 a4 ht h0 ?_
  show AW mJ5_pollLast G d Qr Qx _ _ _ 20 _ _
  refine r_astore_n (i := 3) dJ5_pollLast_20 rfl (Nat.le_of_ble_eq_true rfl) (by simp only [lset]; rfl) ?_
  refine r_aload_n (i := 3) dJ5_pollLast_21 rfl rfl ?_
  refine r_ifnull (tgt := 34) dJ5_pollLast_22 (by decide) (fun h22 => ?_) (fun a22 h22 => ?_)
  · cases h22
  · refine r_aload_n (i := 1) dJ5_pollLast_25 rfl rfl ?_
    refine r_aload_n (i := 0) dJ5_pollLast_26 rfl rfl ?_
    refine r_iload_n (i := 2) dJ5_pollLast_27 rfl rfl ?_
    refine r_dup_x1 dJ5_pollLast_28 rfl rfl ?_
    refine r_putI dJ5_pollLast_29 fG_J5_20 (fun _ => by first | rfl | contradiction) (by first | assumption | (simp only [kd_sI, kd_sR, kd_sA, kd_sQ, kd_sL, kd_sD, ln_sI, ln_sR, ln_sA, ln_sQ, ln_sL, ln_sD, gI_sR, gI_sA, gI_sQ, gI_sL, gI_sD, gR_sI, gR_sA, gR_sQ, gR_sL, gR_sD, gA_sI, gA_sR, gA_sQ, gA_sL, gA_sD, gQ_sI, gQ_sR, gQ_sA, gQ_sL, gQ_sD, gL_sI, gL_sR, gL_sA, gL_sQ, gL_sD]; assumption) | simp [kd_sI, kd_sR, kd_sA, kd_sQ, kd_sL, kd_sD, ln_sI, ln_sR, ln_sA, ln_sQ, ln_sL, ln_sD, gI_sR, gI_sA, gI_sQ, gI_sL, gI_sD, gR_sI, gR_sA, gR_sQ, gR_sL, gR_sD, gA_sI, gA_sR, gA_sQ, gA_sL, gA_sD, gQ_sI, gQ_sR, gQ_sA, gQ_sL, gQ_sD, gL_sI, gL_sR, gL_sA, gL_sQ, gL_sD, kd_nO, kd_nA, *]) (by first | rfl | assumption) (by first | rfl | assumption) ?_
    refine r_null dJ5_pollLast_32 ?_
    refine r_qast dJ5_pollLast_33 (by first | assumption | (simp only [kd_sI, kd_sR, kd_sA, kd_sQ, kd_sL, kd_sD, ln_sI, ln_sR, ln_sA, ln_sQ, ln_sL, ln_sD, gI_sR, gI_sA, gI_sQ, gI_sL, gI_sD, gR_sI, gR_sA, gR_sQ, gR_sL, gR_sD, gA_sI, gA_sR, gA_sQ, gA_sL, gA_sD, gQ_sI, gQ_sR, gQ_sA, gQ_sL, gQ_sD, gL_sI, gL_sR, gL_sA, gL_sQ, gL_sD]; assumption) | simp [kd_sI, kd_sR, kd_sA, kd_sQ, kd_sL, kd_sD, ln_sI, ln_sR, ln_sA, ln_sQ, ln_sL, ln_sD, gI_sR, gI_sA, gI_sQ, gI_sL, gI_sD, gR_sI, gR_sA, gR_sQ, gR_sL, gR_sD, gA_sI, gA_sR, gA_sQ, gA_sL, gA_sD, gQ_sI, gQ_sR, gQ_sA, gQ_sL, gQ_sD, gL_sI, gL_sR, gL_sA, gL_sQ, gL_sD, kd_nO, kd_nA, *]) (by decide) (by first | assumption | exact gI_sIs | exact gR_sRs | with_reducible rfl | (simp only [kd_sI, kd_sR, kd_sA, kd_sQ, kd_sL, kd_sD, ln_sI, ln_sR, ln_sA, ln_sQ, ln_sL, ln_sD, gI_sR, gI_sA, gI_sQ, gI_sL, gI_sD, gR_sI, gR_sA, gR_sQ, gR_sL, gR_sD, gA_sI, gA_sR, gA_sQ, gA_sL, gA_sD, gQ_sI, gQ_sR, gQ_sA, gQ_sL, gQ_sD, gL_sI, gL_sR, gL_sA, gL_sQ, gL_sD]; first | done | assumption | with_reducible rfl) | rfl) (by first | with_reducible rfl | assumption | (simp only [nI_add, pk_mul, nI_1]; with_reducible rfl)) (by first | assumption | omega) (by first | assumption | omega) ?_ ?_
    · intro b hb
      cases hb
    · refine r_aload_n (i := 3) dJ5_pollLast_34 rfl rfl ?_
      refine r_areturn dJ5_pollLast_35 rfl (by first | exact Or.inl ⟨_, rfl⟩ | exact Or.inr ⟨_, rfl⟩) ?_
      have hK : Ks (SL D e) H (sQ (sI H 108 D (nI t)) 4106 e (va_up (gQ (sI H 108 D (nI t)) 4106 e) t none)) := (Ks.rf.sI (fun _ => Or.inl rfl)).sQ (fun _ => Or.inr rfl)
      refine hQ _ hK ⟨a1, a2, a3, a4, a5, ?_, ?_, by omega, fun i hi => ?_, fun i hi => (a10 i (by omega)).ks hK⟩
      · rw [gI_sQ, gI_sIn (by decide)]
        exact a6
      · rw [gI_sQ, gI_sIs, het]
      · rw [gQ_sQs]
        unfold va_up
        rw [if_neg (by omega)]
        exact a9 i (by omega)
theorem s_dqRemL (hd : 2 ≤ d) (h : DQ G H D n xs e hd0) (hn : 0 < n) (hQ : ∀ H', Ks (SL D e) H H' → DQ G H' D (n - 1) xs e hd0 → Qr (some (vR (some (xs (n - 1))))) H') : AMet G d 0 0 yJ5_removeLast wJ5_removeLast H [vR (some D)] Qr Qx := by
  have a1 := h.1
  refine AMet.of (M := mJ5_removeLast) (maxL := 2) (by first | rfl | decide +kernel) rfl (Nat.le_of_ble_eq_true rfl) ?_
  show AW mJ5_removeLast _ _ _ _ _ _ _ 0 [some (vR (some D)), none] []
  refine r_aload_n (i := 0) dJ5_removeLast_0 rfl rfl ?_
  refine r_callV (As := []) (mc' := 0) (ms' := 0) dJ5_removeLast_1 k_J5_100 rfl (by first | assumption | (simp only [kd_sI, kd_sR, kd_sA, kd_sQ, kd_sL, kd_sD, ln_sI, ln_sR, ln_sA, ln_sQ, ln_sL, ln_sD, gI_sR, gI_sA, gI_sQ, gI_sL, gI_sD, gR_sI, gR_sA, gR_sQ, gR_sL, gR_sD, gA_sI, gA_sR, gA_sQ, gA_sL, gA_sD, gQ_sI, gQ_sR, gQ_sA, gQ_sL, gQ_sD, gL_sI, gL_sR, gL_sA, gL_sQ, gL_sD]; assumption) | simp [kd_sI, kd_sR, kd_sA, kd_sQ, kd_sL, kd_sD, ln_sI, ln_sR, ln_sA, ln_sQ, ln_sL, ln_sD, gI_sR, gI_sA, gI_sQ, gI_sL, gI_sD, gR_sI, gR_sA, gR_sQ, gR_sL, gR_sD, gA_sI, gA_sR, gA_sQ, gA_sL, gA_sD, gQ_sI, gQ_sR, gQ_sA, gQ_sL, gQ_sD, gL_sI, gL_sR, gL_sA, gL_sQ, gL_sD, kd_nO, kd_nA, *]) (T := TJ5) (N := 3) rfl (by first | assumption | omega) (by first | assumption | omega) (by first | assumption | omega) (Nat.le_of_ble_eq_true rfl) ?_
  refine s_dqPollL (by omega) h hn (fun H' hK hq => ?_)
  show AW mJ5_removeLast G d Qr Qx _ _ _ 4 _ _
  refine r_astore_n (i := 1) dJ5_removeLast_4 rfl (Nat.le_of_ble_eq_true rfl) (by simp only [lset]; rfl) ?_
  refine r_aload_n (i := 1) dJ5_removeLast_5 rfl rfl ?_
  refine r_ifnonnull (tgt := 17) dJ5_removeLast_6 (by decide) (fun a6 h6 => ?_) (fun h6 => ?_)
  · refine r_aload_n (i := 1) dJ5_removeLast_17 rfl rfl ?_
    refine r_areturn dJ5_removeLast_18 rfl (by first | exact Or.inl ⟨_, rfl⟩ | exact Or.inr ⟨_, rfl⟩) ?_
    exact hQ H' hK hq
  · cases h6
theorem s_dqCC {h t : Nat} (he : kd H e = 4106) (hl : ln H e = 17) (hh : h < 17) (ht : t < 17) (hQ : ∀ H', Ks (fun a => a = e) H H' → ln H' e = 17 → Qr none H') : AMet G d 0 0 yJ5_circularClear wJ5_circularClear H [vR (some e), vI (nI h), vI (nI t)] Qr Qx := by
  refine AMet.of (M := mJ5_circularClear) (maxL := 4) (by first | rfl | decide +kernel) rfl (Nat.le_of_ble_eq_true rfl) ?_
  show AW mJ5_circularClear _ _ _ _ _ _ _ 0 [some (vR (some e)), some (vI (nI h)), some (vI (nI t)), none] []
  -- from 12 on, i up to m
  have loop : ∀ (m : Nat) (fin : ∀ H', Ks (fun a => a = e) H H' → ln H' e = 17 → AW mJ5_circularClear G d Qr Qx 0 0 H' 27 [some (vR (some e)), some (vI (nI m)), some (vI (nI t)), some (vI (nI m))] []), m ≤ 17 → ∀ (k i : Nat) (H1 : AH), i + k = m → Ks (fun a => a = e) H H1 → ln H1 e = 17 → AW mJ5_circularClear G d Qr Qx 0 0 H1 12 [some (vR (some e)), some (vI (nI i)), some (vI (nI t)), some (vI (nI m))] [] := by
    intro m fin hm k
    induction k with
    | zero =>
      intro i H1 hi hK hl1
      rw [show i = m by omega]
      refine r_iload_n (i := 1) dJ5_circularClear_12 rfl rfl ?_
      refine r_iload_n (i := 3) dJ5_circularClear_13 rfl rfl ?_
      refine r_icmp_ge (tgt := 27) dJ5_circularClear_14 (by decide) (fun h14 => ?_) (fun h14 => ?_)
      · exact fin H1 hK hl1
      · exact absurd (nI_le (by omega) (by omega)) h14
    | succ k ih =>
      intro i H1 hi hK hl1
      have k1 : kd H1 e = 4106 := hK.kk he (by decide)
      refine r_iload_n (i := 1) dJ5_circularClear_12 rfl rfl ?_
      refine r_iload_n (i := 3) dJ5_circularClear_13 rfl rfl ?_
      refine r_icmp_ge (tgt := 27) dJ5_circularClear_14 (by decide) (fun h14 => ?_) (fun h14 => ?_)
      · exact absurd h14 (nI_ge (by omega) (by omega))
      · refine r_aload_n (i := 0) dJ5_circularClear_17 rfl rfl ?_
        refine r_iload_n (i := 1) dJ5_circularClear_18 rfl rfl ?_
        refine r_null dJ5_circularClear_19 ?_
        refine r_qast dJ5_circularClear_20 (by first | assumption | (simp only [kd_sI, kd_sR, kd_sA, kd_sQ, kd_sL, kd_sD, ln_sI, ln_sR, ln_sA, ln_sQ, ln_sL, ln_sD, gI_sR, gI_sA, gI_sQ, gI_sL, gI_sD, gR_sI, gR_sA, gR_sQ, gR_sL, gR_sD, gA_sI, gA_sR, gA_sQ, gA_sL, gA_sD, gQ_sI, gQ_sR, gQ_sA, gQ_sL, gQ_sD, gL_sI, gL_sR, gL_sA, gL_sQ, gL_sD]; assumption) | simp [kd_sI, kd_sR, kd_sA, kd_sQ, kd_sL, kd_sD, ln_sI, ln_sR, ln_sA, ln_sQ, ln_sL, ln_sD, gI_sR, gI_sA, gI_sQ, gI_sL, gI_sD, gR_sI, gR_sA, gR_sQ, gR_sL, gR_sD, gA_sI, gA_sR, gA_sQ, gA_sL, gA_sD, gQ_sI, gQ_sR, gQ_sA, gQ_sL, gQ_sD, gL_sI, gL_sR, gL_sA, gL_sQ, gL_sD, kd_nO, kd_nA, *]) (by decide) (by first | assumption | exact gI_sIs | exact gR_sRs | with_reducible rfl | (simp only [kd_sI, kd_sR, kd_sA, kd_sQ, kd_sL, kd_sD, ln_sI, ln_sR, ln_sA, ln_sQ, ln_sL, ln_sD, gI_sR, gI_sA, gI_sQ, gI_sL, gI_sD, gR_sI, gR_sA, gR_sQ, gR_sL, gR_sD, gA_sI, gA_sR, gA_sQ, gA_sL, gA_sD, gQ_sI, gQ_sR, gQ_sA, gQ_sL, gQ_sD, gL_sI, gL_sR, gL_sA, gL_sQ, gL_sD]; first | done | assumption | with_reducible rfl) | rfl) (by first | with_reducible rfl | assumption | (simp only [nI_add, pk_mul, nI_1]; with_reducible rfl)) (by first | assumption | omega) (by first | assumption | omega) ?_ ?_
        · intro b hb
          cases hb
        · refine r_iinc dJ5_circularClear_21 rfl (by first | exact nI_1 _ | rfl) (by simp only [lset]; rfl) ?_
          refine r_goto (tgt := 12) dJ5_circularClear_24 (by decide) ?_
          exact ih (i + 1) _ (by omega) (hK.sQ (fun _ => rfl)) hl1
  have fin : ∀ H', Ks (fun a => a = e) H H' → ln H' e = 17 → AW mJ5_circularClear G d Qr Qx 0 0 H' 27 [some (vR (some e)), some (vI (nI t)), some (vI (nI t)), some (vI (nI t))] [] := by
    intro H' hK hl'
    refine r_iload_n (i := 3) dJ5_circularClear_27 rfl rfl ?_
    refine r_iload_n (i := 2) dJ5_circularClear_28 rfl rfl ?_
    refine r_icmp_ne (tgt := 35) dJ5_circularClear_29 (by decide) (fun h29 => ?_) (fun h29 => ?_)
    · exact absurd rfl h29
    · refine r_goto (tgt := 42) dJ5_circularClear_32 (by decide) ?_
      refine r_return dJ5_circularClear_42 rfl ?_
      exact hQ H' hK hl'
  refine r_iload_n (i := 1) dJ5_circularClear_0 rfl rfl ?_
  refine r_iload_n (i := 2) dJ5_circularClear_1 rfl rfl ?_
  refine r_icmp_gt (tgt := 9) dJ5_circularClear_2 (by decide) (fun h2 => ?_) (fun h2 => ?_)
  · have hlt : t < h := Classical.byContradiction fun q => nI_nlt (a := t) (b := h) (by omega) (by omega) h2
    refine r_aload_n (i := 0) dJ5_circularClear_9 rfl rfl ?_
    refine r_alen dJ5_circularClear_10 (by first | (refine ⟨?_, ?_⟩ <;> simp [kd_sI, kd_sR, kd_sA, kd_sQ, kd_sL, kd_sD, ln_sI, ln_sR, ln_sA, ln_sQ, ln_sL, ln_sD, gI_sR, gI_sA, gI_sQ, gI_sL, gI_sD, gR_sI, gR_sA, gR_sQ, gR_sL, gR_sD, gA_sI, gA_sR, gA_sQ, gA_sL, gA_sD, gQ_sI, gQ_sR, gQ_sA, gQ_sL, gQ_sD, gL_sI, gL_sR, gL_sA, gL_sQ, gL_sD, *]; done) | omega) (by first | assumption | exact gI_sIs | exact gR_sRs | with_reducible rfl | (simp only [kd_sI, kd_sR, kd_sA, kd_sQ, kd_sL, kd_sD, ln_sI, ln_sR, ln_sA, ln_sQ, ln_sL, ln_sD, gI_sR, gI_sA, gI_sQ, gI_sL, gI_sD, gR_sI, gR_sA, gR_sQ, gR_sL, gR_sD, gA_sI, gA_sR, gA_sQ, gA_sL, gA_sD, gQ_sI, gQ_sR, gQ_sA, gQ_sL, gQ_sD, gL_sI, gL_sR, gL_sA, gL_sQ, gL_sD]; first | done | assumption | with_reducible rfl) | rfl) ?_
    refine r_istore_n (i := 3) dJ5_circularClear_11 rfl (Nat.le_of_ble_eq_true rfl) (by simp only [lset]; rfl) ?_
    refine loop 17 (fun H' hK hl' => ?_) (by decide) (17 - h) h H (by omega) Ks.rf hl
    refine r_iload_n (i := 3) dJ5_circularClear_27 rfl rfl ?_
    refine r_iload_n (i := 2) dJ5_circularClear_28 rfl rfl ?_
    refine r_icmp_ne (tgt := 35) dJ5_circularClear_29 (by decide) (fun h29 => ?_) (fun h29 => ?_)
    · refine r_iconst (v := nI 0) dJ5_circularClear_35 (by decide) ?_
      refine r_istore_n (i := 1) dJ5_circularClear_36 rfl (Nat.le_of_ble_eq_true rfl) (by simp only [lset]; rfl) ?_
      refine r_iload_n (i := 2) dJ5_circularClear_37 rfl rfl ?_
      refine r_istore_n (i := 3) dJ5_circularClear_38 rfl (Nat.le_of_ble_eq_true rfl) (by simp only [lset]; rfl) ?_
      refine r_goto (tgt := 12) dJ5_circularClear_39 (by decide) ?_
      exact loop t fin (by omega) t 0 H' (by omega) hK hl'
    · exact absurd h29 (nI_ne (by omega) (by omega) (by omega))
  · have hle : h ≤ t := Classical.byContradiction fun q => h2 (nI_lt (by omega) (by omega))
    refine r_iload_n (i := 2) dJ5_circularClear_5 rfl rfl ?_
    refine r_goto (tgt := 11) dJ5_circularClear_6 (by decide) ?_
    refine r_istore_n (i := 3) dJ5_circularClear_11 rfl (Nat.le_of_ble_eq_true rfl) (by simp only [lset]; rfl) ?_
    exact loop t fin (by omega) (t - h) h H (by omega) Ks.rf hl
theorem s_dqClear (hd : 1 ≤ d) (h : DQ G H D n xs e hd0) (hQ : ∀ H', Ks (SL D e) H H' → DQ G H' D 0 xs e 0 → Qr none H') : AMet G d 0 0 yJ5_clear wJ5_clear H [vR (some D)] Qr Qx := by
  obtain ⟨a1, a2, a3, a4, a5, a6, a7, a8, a9, a10⟩ := h
  have hDe : D ≠ e := ne_of_kd a1 a3 (by decide)
  refine AMet.of (M := mJ5_clear) (maxL := 1) (by first | rfl | decide +kernel) rfl (Nat.le_of_ble_eq_true rfl) ?_
  show AW mJ5_clear _ _ _ _ _ _ _ 0 [some (vR (some D))] []
  refine r_aload_n (i := 0) dJ5_clear_0 rfl rfl ?_
  refine r_getR dJ5_clear_1 fR_J5_3 (by first | assumption | (simp only [kd_sI, kd_sR, kd_sA, kd_sQ, kd_sL, kd_sD, ln_sI, ln_sR, ln_sA, ln_sQ, ln_sL, ln_sD, gI_sR, gI_sA, gI_sQ, gI_sL, gI_sD, gR_sI, gR_sA, gR_sQ, gR_sL, gR_sD, gA_sI, gA_sR, gA_sQ, gA_sL, gA_sD, gQ_sI, gQ_sR, gQ_sA, gQ_sL, gQ_sD, gL_sI, gL_sR, gL_sA, gL_sQ, gL_sD]; assumption) | simp [kd_sI, kd_sR, kd_sA, kd_sQ, kd_sL, kd_sD, ln_sI, ln_sR, ln_sA, ln_sQ, ln_sL, ln_sD, gI_sR, gI_sA, gI_sQ, gI_sL, gI_sD, gR_sI, gR_sA, gR_sQ, gR_sL, gR_sD, gA_sI, gA_sR, gA_sQ, gA_sL, gA_sD, gQ_sI, gQ_sR, gQ_sA, gQ_sL, gQ_sD, gL_sI, gL_sR, gL_sA, gL_sQ, gL_sD, kd_nO, kd_nA, *]) (by first | assumption | exact gI_sIs | exact gR_sRs | with_reducible rfl | (simp only [kd_sI, kd_sR, kd_sA, kd_sQ, kd_sL, kd_sD, ln_sI, ln_sR, ln_sA, ln_sQ, ln_sL, ln_sD, gI_sR, gI_sA, gI_sQ, gI_sL, gI_sD, gR_sI, gR_sA, gR_sQ, gR_sL, gR_sD, gA_sI, gA_sR, gA_sQ, gA_sL, gA_sD, gQ_sI, gQ_sR, gQ_sA, gQ_sL, gQ_sD, gL_sI, gL_sR, gL_sA, gL_sQ, gL_sD]; first | done | assumption | with_reducible rfl) | rfl) ?_
  refine r_aload_n (i := 0) dJ5_clear_4 rfl rfl ?_
  refine r_getI dJ5_clear_5 fR_J5_24 (by first | assumption | (simp only [kd_sI, kd_sR, kd_sA, kd_sQ, kd_sL, kd_sD, ln_sI, ln_sR, ln_sA, ln_sQ, ln_sL, ln_sD, gI_sR, gI_sA, gI_sQ, gI_sL, gI_sD, gR_sI, gR_sA, gR_sQ, gR_sL, gR_sD, gA_sI, gA_sR, gA_sQ, gA_sL, gA_sD, gQ_sI, gQ_sR, gQ_sA, gQ_sL, gQ_sD, gL_sI, gL_sR, gL_sA, gL_sQ, gL_sD]; assumption) | simp [kd_sI, kd_sR, kd_sA, kd_sQ, kd_sL, kd_sD, ln_sI, ln_sR, ln_sA, ln_sQ, ln_sL, ln_sD, gI_sR, gI_sA, gI_sQ, gI_sL, gI_sD, gR_sI, gR_sA, gR_sQ, gR_sL, gR_sD, gA_sI, gA_sR, gA_sQ, gA_sL, gA_sD, gQ_sI, gQ_sR, gQ_sA, gQ_sL, gQ_sD, gL_sI, gL_sR, gL_sA, gL_sQ, gL_sD, kd_nO, kd_nA, *]) (by first | assumption | exact gI_sIs | exact gR_sRs | with_reducible rfl | (simp only [kd_sI, kd_sR, kd_sA, kd_sQ, kd_sL, kd_sD, ln_sI, ln_sR, ln_sA, ln_sQ, ln_sL, ln_sD, gI_sR, gI_sA, gI_sQ, gI_sL, gI_sD, gR_sI, gR_sA, gR_sQ, gR_sL, gR_sD, gA_sI, gA_sR, gA_sQ, gA_sL, gA_sD, gQ_sI, gQ_sR, gQ_sA, gQ_sL, gQ_sD, gL_sI, gL_sR, gL_sA, gL_sQ, gL_sD]; first | done | assumption | with_reducible rfl) | rfl) ?_
  refine r_aload_n (i := 0) dJ5_clear_8 rfl rfl ?_
  refine r_getI dJ5_clear_9 fR_J5_20 (by first | assumption | (simp only [kd_sI, kd_sR, kd_sA, kd_sQ, kd_sL, kd_sD, ln_sI, ln_sR, ln_sA, ln_sQ, ln_sL, ln_sD, gI_sR, gI_sA, gI_sQ, gI_sL, gI_sD, gR_sI, gR_sA, gR_sQ, gR_sL, gR_sD, gA_sI, gA_sR, gA_sQ, gA_sL, gA_sD, gQ_sI, gQ_sR, gQ_sA, gQ_sL, gQ_sD, gL_sI, gL_sR, gL_sA, gL_sQ, gL_sD]; assumption) | simp [kd_sI, kd_sR, kd_sA, kd_sQ, kd_sL, kd_sD, ln_sI, ln_sR, ln_sA, ln_sQ, ln_sL, ln_sD, gI_sR, gI_sA, gI_sQ, gI_sL, gI_sD, gR_sI, gR_sA, gR_sQ, gR_sL, gR_sD, gA_sI, gA_sR, gA_sQ, gA_sL, gA_sD, gQ_sI, gQ_sR, gQ_sA, gQ_sL, gQ_sD, gL_sI, gL_sR, gL_sA, gL_sQ, gL_sD, kd_nO, kd_nA, *]) (by first | assumption | exact gI_sIs | exact gR_sRs | with_reducible rfl | (simp only [kd_sI, kd_sR, kd_sA, kd_sQ, kd_sL, kd_sD, ln_sI, ln_sR, ln_sA, ln_sQ, ln_sL, ln_sD, gI_sR, gI_sA, gI_sQ, gI_sL, gI_sD, gR_sI, gR_sA, gR_sQ, gR_sL, gR_sD, gA_sI, gA_sR, gA_sQ, gA_sL, gA_sD, gQ_sI, gQ_sR, gQ_sA, gQ_sL, gQ_sD, gL_sI, gL_sR, gL_sA, gL_sQ, gL_sD]; first | done | assumption | with_reducible rfl) | rfl) ?_
  refine r_callS (As := [_, _, _]) (mc' := 0) (ms' := 0) dJ5_clear_12 k_J5_181 rfl (by first | assumption | omega) (by first | assumption | omega) (by first | assumption | omega) (Nat.le_of_ble_eq_true rfl) ?_
  refine s_dqCC a3 a4 a5 (Nat.mod_lt _ (by decide)) (fun H' hK hl' => ?_)
  have hK1 : Ks (SL D e) H H' := hK.mono (fun _ _ q => Or.inr q)
  have k1 : kd H' D = 22 := hK.kk a1 (by decide)
  have e1 := hK.at (a := D) (by rw [a1]; decide) hDe
  show AW mJ5_clear G d Qr Qx _ _ _ 15 _ _
  refine r_aload_n (i := 0) dJ5_clear_15 rfl rfl ?_
  refine r_aload_n (i := 0) dJ5_clear_16 rfl rfl ?_
  refine r_iconst (v := nI 0) dJ5_clear_17 (by decide) ?_
  refine r_dup_x1 dJ5_clear_18 rfl rfl ?_
  refine r_putI dJ5_clear_19 fG_J5_20 (fun _ => by first | rfl | contradiction) (by first | assumption | (simp only [kd_sI, kd_sR, kd_sA, kd_sQ, kd_sL, kd_sD, ln_sI, ln_sR, ln_sA, ln_sQ, ln_sL, ln_sD, gI_sR, gI_sA, gI_sQ, gI_sL, gI_sD, gR_sI, gR_sA, gR_sQ, gR_sL, gR_sD, gA_sI, gA_sR, gA_sQ, gA_sL, gA_sD, gQ_sI, gQ_sR, gQ_sA, gQ_sL, gQ_sD, gL_sI, gL_sR, gL_sA, gL_sQ, gL_sD]; assumption) | simp [kd_sI, kd_sR, kd_sA, kd_sQ, kd_sL, kd_sD, ln_sI, ln_sR, ln_sA, ln_sQ, ln_sL, ln_sD, gI_sR, gI_sA, gI_sQ, gI_sL, gI_sD, gR_sI, gR_sA, gR_sQ, gR_sL, gR_sD, gA_sI, gA_sR, gA_sQ, gA_sL, gA_sD, gQ_sI, gQ_sR, gQ_sA, gQ_sL, gQ_sD, gL_sI, gL_sR, gL_sA, gL_sQ, gL_sD, kd_nO, kd_nA, *]) (by first | rfl | assumption) (by first | rfl | assumption) ?_
  refine r_putI dJ5_clear_22 fG_J5_24 (fun _ => by first | rfl | contradiction) (by first | assumption | (simp only [kd_sI, kd_sR, kd_sA, kd_sQ, kd_sL, kd_sD, ln_sI, ln_sR, ln_sA, ln_sQ, ln_sL, ln_sD, gI_sR, gI_sA, gI_sQ, gI_sL, gI_sD, gR_sI, gR_sA, gR_sQ, gR_sL, gR_sD, gA_sI, gA_sR, gA_sQ, gA_sL, gA_sD, gQ_sI, gQ_sR, gQ_sA, gQ_sL, gQ_sD, gL_sI, gL_sR, gL_sA, gL_sQ, gL_sD]; assumption) | simp [kd_sI, kd_sR, kd_sA, kd_sQ, kd_sL, kd_sD, ln_sI, ln_sR, ln_sA, ln_sQ, ln_sL, ln_sD, gI_sR, gI_sA, gI_sQ, gI_sL, gI_sD, gR_sI, gR_sA, gR_sQ, gR_sL, gR_sD, gA_sI, gA_sR, gA_sQ, gA_sL, gA_sD, gQ_sI, gQ_sR, gQ_sA, gQ_sL, gQ_sD, gL_sI, gL_sR, gL_sA, gL_sQ, gL_sD, kd_nO, kd_nA, *]) (by first | rfl | assumption) (by first | rfl | assumption) ?_
  refine r_return dJ5_clear_25 rfl ?_
  refine hQ _ ((hK1.sI (fun _ => Or.inl rfl)).sI (fun _ => Or.inl rfl)) ⟨k1, ?_, hK.kk a3 (by decide), hl', by decide, gI_sIs, ?_, by decide, fun i hi => absurd hi (by omega), fun i hi => absurd hi (by omega)⟩
  · show gR H' 106 D = _
    rw [at_gR e1]
    exact a2
  · rw [gI_sIn (by decide), gI_sIs]
theorem s_dqInit (hd : 3 ≤ d) (hk : kd H D = 22) (hz1 : gI H 107 D = 0) (hz2 : gI H 108 D = 0) (hQ : ∀ H' e, Ks (fun a => a = D) H H' → kd H e = 0 → DQ G H' D 0 xs e 0 → Qr none H') : AMet G d 1 17 yJ5_init wJ5_init H [vR (some D)] Qr Qx := by
  refine AMet.of (M := mJ5_init) (maxL := 1) (by first | rfl | decide +kernel) rfl (Nat.le_of_ble_eq_true rfl) ?_
  show AW mJ5_init _ _ _ _ _ _ _ 0 [some (vR (some D))] []
  refine r_aload_n (i := 0) dJ5_init_0 rfl rfl ?_
  refine r_callI (As := []) (mc' := 0) (ms' := 0) dJ5_init_1 k_J5_42 rfl (by first | assumption | omega) (by first | assumption | omega) (by first | assumption | omega) (Nat.le_of_ble_eq_true rfl) ?_
  refine s_acInit (by omega) ?_
  show AW mJ5_init G d Qr Qx _ _ _ 4 _ _
  refine r_aload_n (i := 0) dJ5_init_4 rfl rfl ?_
  refine r_bipush (v := nI 17) dJ5_init_5 (by decide) ?_
  refine r_new_obj 4106 dJ5_init_7 q257 (by decide) (by first | with_reducible rfl | assumption | (simp only [nI_add, pk_mul, nI_1]; with_reducible rfl)) (by first | assumption | omega) (by first | assumption | omega) (by first | assumption | omega) (fun q7 hq7 => ?_)
  have hne : ¬ D = q7 := fun h => by rw [h, hq7] at hk; cases hk
  refine r_putR dJ5_init_10 fG_J5_3 (fun _ => by first | rfl | contradiction) (by first | assumption | (simp only [kd_sI, kd_sR, kd_sA, kd_sQ, kd_sL, kd_sD, ln_sI, ln_sR, ln_sA, ln_sQ, ln_sL, ln_sD, gI_sR, gI_sA, gI_sQ, gI_sL, gI_sD, gR_sI, gR_sA, gR_sQ, gR_sL, gR_sD, gA_sI, gA_sR, gA_sQ, gA_sL, gA_sD, gQ_sI, gQ_sR, gQ_sA, gQ_sL, gQ_sD, gL_sI, gL_sR, gL_sA, gL_sQ, gL_sD]; assumption) | simp [kd_sI, kd_sR, kd_sA, kd_sQ, kd_sL, kd_sD, ln_sI, ln_sR, ln_sA, ln_sQ, ln_sL, ln_sD, gI_sR, gI_sA, gI_sQ, gI_sL, gI_sD, gR_sI, gR_sA, gR_sQ, gR_sL, gR_sD, gA_sI, gA_sR, gA_sQ, gA_sL, gA_sD, gQ_sI, gQ_sR, gQ_sA, gQ_sL, gQ_sD, gL_sI, gL_sR, gL_sA, gL_sQ, gL_sD, kd_nO, kd_nA, *]) (by first | exact Or.inl ⟨_, rfl⟩ | exact Or.inr ⟨_, rfl⟩) ?_
  refine r_return dJ5_init_13 rfl ?_
  refine hQ _ q7 (((Ks.rf (S := fun a => a = D)).nA hq7).sR (fun _ => rfl)) hq7 ⟨?_, gR_sRs, ?_, ?_, by decide, ?_, ?_, by decide, fun i hi => absurd hi (by omega), fun i hi => absurd hi (by omega)⟩
  · rw [kd_sR, kd_nA, if_neg hne]
    exact hk
  · rw [kd_sR, kd_nA, if_pos rfl]
  · rw [ln_sR, ln_nA, if_pos rfl]
  · exact hz1
  · exact hz2
end Deq
