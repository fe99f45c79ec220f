set_option maxRecDepth 100000
/-! EXCEPTIONS OF THE CLASS: their constructors; chains of numbers -/
section Exc
variable {G : Gl} {d : Nat} {Qr : Option AV → AH → Prop} {Qx : String → Nat → AH → Prop} {H : AH}
theorem s_thrInitX10 {a : Nat} {r : Option Nat} (hd : 1 ≤ d) (hk : kd H a = 9) (hQ : ∀ H', Ks (fun b => b = a) H H' → gR H' 38 a = r → Qr none H') : AMet G d 0 0 yJ10_init_3 wJ10_init_3 H [vR (some a), vR none, vR r, vI (nI 0), vI (nI 0)] Qr Qx := by
  refine AMet.of (M := mJ10_init_3) (maxL := 5) (by first | rfl | decide +kernel) rfl (Nat.le_of_ble_eq_true rfl) ?_
  show AW mJ10_init_3 _ _ _ _ _ _ _ 0 [some (vR (some a)), some (vR none), some (vR r), some (vI (nI 0)), some (vI (nI 0))] []
  refine r_aload_n (i := 0) dJ10_init_3_0 rfl rfl ?_
  refine r_objInit dJ10_init_3_1 q411 (by with_reducible rfl) (by first | assumption | omega) (Nat.le_of_ble_eq_true rfl) ?_
  refine r_aload_n (i := 0) dJ10_init_3_4 rfl rfl ?_
  refine r_aload_n (i := 0) dJ10_init_3_5 rfl rfl ?_
  refine r_putR dJ10_init_3_6 fG_J10_7_X10 (fun _ => by first | rfl | contradiction) (by first | assumption | (simp only [kd_sI, kd_sR, kd_sA, kd_sQ, kd_sL, kd_sD, ln_sI, ln_sR, ln_sA, ln_sQ, ln_sL, ln_sD, gI_sR, gI_sA, gI_sQ, gI_sL, gI_sD, gR_sI, gR_sA, gR_sQ, gR_sL, gR_sD, gA_sI, gA_sR, gA_sQ, gA_sL, gA_sD, gQ_sI, gQ_sR, gQ_sA, gQ_sL, gQ_sD, gL_sI, gL_sR, gL_sA, gL_sQ, gL_sD]; assumption) | simp [kd_sI, kd_sR, kd_sA, kd_sQ, kd_sL, kd_sD, ln_sI, ln_sR, ln_sA, ln_sQ, ln_sL, ln_sD, gI_sR, gI_sA, gI_sQ, gI_sL, gI_sD, gR_sI, gR_sA, gR_sQ, gR_sL, gR_sD, gA_sI, gA_sR, gA_sQ, gA_sL, gA_sD, gQ_sI, gQ_sR, gQ_sA, gQ_sL, gQ_sD, gL_sI, gL_sR, gL_sA, gL_sQ, gL_sD, kd_nO, kd_nA, *]) (by first | exact Or.inl ⟨_, rfl⟩ | exact Or.inr ⟨_, rfl⟩) ?_
  refine r_aload_n (i := 0) dJ10_init_3_9 rfl rfl ?_
  refine r_gs_ust dJ10_init_3_10 q412 (fun r10 => ?_)
  refine r_putR dJ10_init_3_13 fG_J10_17_X10 (fun _ => by first | rfl | contradiction) (by first | assumption | (simp only [kd_sI, kd_sR, kd_sA, kd_sQ, kd_sL, kd_sD, ln_sI, ln_sR, ln_sA, ln_sQ, ln_sL, ln_sD, gI_sR, gI_sA, gI_sQ, gI_sL, gI_sD, gR_sI, gR_sA, gR_sQ, gR_sL, gR_sD, gA_sI, gA_sR, gA_sQ, gA_sL, gA_sD, gQ_sI, gQ_sR, gQ_sA, gQ_sL, gQ_sD, gL_sI, gL_sR, gL_sA, gL_sQ, gL_sD]; assumption) | simp [kd_sI, kd_sR, kd_sA, kd_sQ, kd_sL, kd_sD, ln_sI, ln_sR, ln_sA, ln_sQ, ln_sL, ln_sD, gI_sR, gI_sA, gI_sQ, gI_sL, gI_sD, gR_sI, gR_sA, gR_sQ, gR_sL, gR_sD, gA_sI, gA_sR, gA_sQ, gA_sL, gA_sD, gQ_sI, gQ_sR, gQ_sA, gQ_sL, gQ_sD, gL_sI, gL_sR, gL_sA, gL_sQ, gL_sD, kd_nO, kd_nA, *]) (by first | exact Or.inl ⟨_, rfl⟩ | exact Or.inr ⟨_, rfl⟩) ?_
  refine r_aload_n (i := 0) dJ10_init_3_16 rfl rfl ?_
  refine r_gs_ssen dJ10_init_3_17 q414 (fun r17 => ?_)
  refine r_putR dJ10_init_3_20 fG_J10_24_X10 (fun _ => by first | rfl | contradiction) (by first | assumption | (simp only [kd_sI, kd_sR, kd_sA, kd_sQ, kd_sL, kd_sD, ln_sI, ln_sR, ln_sA, ln_sQ, ln_sL, ln_sD, gI_sR, gI_sA, gI_sQ, gI_sL, gI_sD, gR_sI, gR_sA, gR_sQ, gR_sL, gR_sD, gA_sI, gA_sR, gA_sQ, gA_sL, gA_sD, gQ_sI, gQ_sR, gQ_sA, gQ_sL, gQ_sD, gL_sI, gL_sR, gL_sA, gL_sQ, gL_sD]; assumption) | simp [kd_sI, kd_sR, kd_sA, kd_sQ, kd_sL, kd_sD, ln_sI, ln_sR, ln_sA, ln_sQ, ln_sL, ln_sD, gI_sR, gI_sA, gI_sQ, gI_sL, gI_sD, gR_sI, gR_sA, gR_sQ, gR_sL, gR_sD, gA_sI, gA_sR, gA_sQ, gA_sL, gA_sD, gQ_sI, gQ_sR, gQ_sA, gQ_sL, gQ_sD, gL_sI, gL_sR, gL_sA, gL_sQ, gL_sD, kd_nO, kd_nA, *]) (by first | exact Or.inl ⟨_, rfl⟩ | exact Or.inr ⟨_, rfl⟩) ?_
  refine r_iload dJ10_init_3_23 rfl ?_
  refine r_if_eq (tgt := 36) dJ10_init_3_25 (by decide) (fun h25 => ?_) (fun h25 => ?_)
  · refine r_aload_n (i := 0) dJ10_init_3_36 rfl rfl ?_
    refine r_null dJ10_init_3_37 ?_
    refine r_putR dJ10_init_3_38 fG_J10_17_X10 (fun _ => by first | rfl | contradiction) (by first | assumption | (simp only [kd_sI, kd_sR, kd_sA, kd_sQ, kd_sL, kd_sD, ln_sI, ln_sR, ln_sA, ln_sQ, ln_sL, ln_sD, gI_sR, gI_sA, gI_sQ, gI_sL, gI_sD, gR_sI, gR_sA, gR_sQ, gR_sL, gR_sD, gA_sI, gA_sR, gA_sQ, gA_sL, gA_sD, gQ_sI, gQ_sR, gQ_sA, gQ_sL, gQ_sD, gL_sI, gL_sR, gL_sA, gL_sQ, gL_sD]; assumption) | simp [kd_sI, kd_sR, kd_sA, kd_sQ, kd_sL, kd_sD, ln_sI, ln_sR, ln_sA, ln_sQ, ln_sL, ln_sD, gI_sR, gI_sA, gI_sQ, gI_sL, gI_sD, gR_sI, gR_sA, gR_sQ, gR_sL, gR_sD, gA_sI, gA_sR, gA_sQ, gA_sL, gA_sD, gQ_sI, gQ_sR, gQ_sA, gQ_sL, gQ_sD, gL_sI, gL_sR, gL_sA, gL_sQ, gL_sD, kd_nO, kd_nA, *]) (by first | exact Or.inl ⟨_, rfl⟩ | exact Or.inr ⟨_, rfl⟩) ?_
    refine r_aload_n (i := 0) dJ10_init_3_41 rfl rfl ?_
    refine r_aload_n (i := 1) dJ10_init_3_42 rfl rfl ?_
    refine r_putR dJ10_init_3_43 fG_J10_31_X10 (fun _ => by first | rfl | contradiction) (by first | assumption | (simp only [kd_sI, kd_sR, kd_sA, kd_sQ, kd_sL, kd_sD, ln_sI, ln_sR, ln_sA, ln_sQ, ln_sL, ln_sD, gI_sR, gI_sA, gI_sQ, gI_sL, gI_sD, gR_sI, gR_sA, gR_sQ, gR_sL, gR_sD, gA_sI, gA_sR, gA_sQ, gA_sL, gA_sD, gQ_sI, gQ_sR, gQ_sA, gQ_sL, gQ_sD, gL_sI, gL_sR, gL_sA, gL_sQ, gL_sD]; assumption) | simp [kd_sI, kd_sR, kd_sA, kd_sQ, kd_sL, kd_sD, ln_sI, ln_sR, ln_sA, ln_sQ, ln_sL, ln_sD, gI_sR, gI_sA, gI_sQ, gI_sL, gI_sD, gR_sI, gR_sA, gR_sQ, gR_sL, gR_sD, gA_sI, gA_sR, gA_sQ, gA_sL, gA_sD, gQ_sI, gQ_sR, gQ_sA, gQ_sL, gQ_sD, gL_sI, gL_sR, gL_sA, gL_sQ, gL_sD, kd_nO, kd_nA, *]) (by first | exact Or.inl ⟨_, rfl⟩ | exact Or.inr ⟨_, rfl⟩) ?_
    refine r_aload_n (i := 0) dJ10_init_3_46 rfl rfl ?_
    refine r_aload_n (i := 2) dJ10_init_3_47 rfl rfl ?_
    refine r_putR dJ10_init_3_48 fG_J10_7_X10 (fun _ => by first | rfl | contradiction) (by first | assumption | (simp only [kd_sI, kd_sR, kd_sA, kd_sQ, kd_sL, kd_sD, ln_sI, ln_sR, ln_sA, ln_sQ, ln_sL, ln_sD, gI_sR, gI_sA, gI_sQ, gI_sL, gI_sD, gR_sI, gR_sA, gR_sQ, gR_sL, gR_sD, gA_sI, gA_sR, gA_sQ, gA_sL, gA_sD, gQ_sI, gQ_sR, gQ_sA, gQ_sL, gQ_sD, gL_sI, gL_sR, gL_sA, gL_sQ, gL_sD]; assumption) | simp [kd_sI, kd_sR, kd_sA, kd_sQ, kd_sL, kd_sD, ln_sI, ln_sR, ln_sA, ln_sQ, ln_sL, ln_sD, gI_sR, gI_sA, gI_sQ, gI_sL, gI_sD, gR_sI, gR_sA, gR_sQ, gR_sL, gR_sD, gA_sI, gA_sR, gA_sQ, gA_sL, gA_sD, gQ_sI, gQ_sR, gQ_sA, gQ_sL, gQ_sD, gL_sI, gL_sR, gL_sA, gL_sQ, gL_sD, kd_nO, kd_nA, *]) (by first | exact Or.inl ⟨_, rfl⟩ | exact Or.inr ⟨_, rfl⟩) ?_
    refine r_iload_n (i := 3) dJ10_init_3_51 rfl rfl ?_
    refine r_if_ne (tgt := 60) dJ10_init_3_52 (by decide) (fun h52 => ?_) (fun h52 => ?_)
    · exact absurd h52 (by decide)
    · refine r_aload_n (i := 0) dJ10_init_3_55 rfl rfl ?_
      refine r_null dJ10_init_3_56 ?_
      refine r_putR dJ10_init_3_57 fG_J10_24_X10 (fun _ => by first | rfl | contradiction) (by first | assumption | (simp only [kd_sI, kd_sR, kd_sA, kd_sQ, kd_sL, kd_sD, ln_sI, ln_sR, ln_sA, ln_sQ, ln_sL, ln_sD, gI_sR, gI_sA, gI_sQ, gI_sL, gI_sD, gR_sI, gR_sA, gR_sQ, gR_sL, gR_sD, gA_sI, gA_sR, gA_sQ, gA_sL, gA_sD, gQ_sI, gQ_sR, gQ_sA, gQ_sL, gQ_sD, gL_sI, gL_sR, gL_sA, gL_sQ, gL_sD]; assumption) | simp [kd_sI, kd_sR, kd_sA, kd_sQ, kd_sL, kd_sD, ln_sI, ln_sR, ln_sA, ln_sQ, ln_sL, ln_sD, gI_sR, gI_sA, gI_sQ, gI_sL, gI_sD, gR_sI, gR_sA, gR_sQ, gR_sL, gR_sD, gA_sI, gA_sR, gA_sQ, gA_sL, gA_sD, gQ_sI, gQ_sR, gQ_sA, gQ_sL, gQ_sD, gL_sI, gL_sR, gL_sA, gL_sQ, gL_sD, kd_nO, kd_nA, *]) (by first | exact Or.inl ⟨_, rfl⟩ | exact Or.inr ⟨_, rfl⟩) ?_
      refine r_return dJ10_init_3_60 rfl ?_
      refine hQ _ (((((((Ks.rf (S := fun b => b = a)).sR (fun _ => rfl)).sR (fun _ => rfl)).sR (fun _ => rfl)).sR (fun _ => rfl)).sR (fun _ => rfl)).sR (fun _ => rfl) |>.sR (fun _ => rfl)) ?_
      rw [gR_sRn (by decide), gR_sRs]
  · exact absurd rfl h25
theorem s_excInitX10 {a : Nat} {r : Option Nat} (hd : 2 ≤ d) (hk : kd H a = 9) (hQ : ∀ H', Ks (fun b => b = a) H H' → gR H' 38 a = r → Qr none H') : AMet G d 0 0 yJ11_init_3 wJ11_init_3 H [vR (some a), vR none, vR r, vI (nI 0), vI (nI 0)] Qr Qx := by
  refine AMet.of (M := mJ11_init_3) (maxL := 5) (by first | rfl | decide +kernel) rfl (Nat.le_of_ble_eq_true rfl) ?_
  show AW mJ11_init_3 _ _ _ _ _ _ _ 0 [some (vR (some a)), some (vR none), some (vR r), some (vI (nI 0)), some (vI (nI 0))] []
  refine r_aload_n (i := 0) dJ11_init_3_0 rfl rfl ?_
  refine r_aload_n (i := 1) dJ11_init_3_1 rfl rfl ?_
  refine r_aload_n (i := 2) dJ11_init_3_2 rfl rfl ?_
  refine r_iload_n (i := 3) dJ11_init_3_3 rfl rfl ?_
  refine r_iload dJ11_init_3_4 rfl ?_
  refine r_callI (As := [_, _, _, _]) (mc' := 0) (ms' := 0) dJ11_init_3_6 k_J11_16 rfl (by first | assumption | omega) (by first | assumption | omega) (by first | assumption | omega) (Nat.le_of_ble_eq_true rfl) ?_
  refine s_thrInitX10 (by omega) hk (fun H' h1 h2 => ?_)
  show AW mJ11_init_3 G d Qr Qx _ _ _ 9 _ _
  refine r_return dJ11_init_3_9 rfl ?_
  exact hQ H' h1 h2
theorem s_thrInitX14 {a : Nat} {r : Option Nat} (hd : 1 ≤ d) (hk : kd H a = 10) (hQ : ∀ H', Ks (fun b => b = a) H H' → gR H' 38 a = r → Qr none H') : AMet G d 0 0 yJ10_init_3 wJ10_init_3 H [vR (some a), vR none, vR r, vI (nI 0), vI (nI 0)] Qr Qx := by
  refine AMet.of (M := mJ10_init_3) (maxL := 5) (by first | rfl | decide +kernel) rfl (Nat.le_of_ble_eq_true rfl) ?_
  show AW mJ10_init_3 _ _ _ _ _ _ _ 0 [some (vR (some a)), some (vR none), some (vR r), some (vI (nI 0)), some (vI (nI 0))] []
  refine r_aload_n (i := 0) dJ10_init_3_0 rfl rfl ?_
  refine r_objInit dJ10_init_3_1 q411 (by with_reducible rfl) (by first | assumption | omega) (Nat.le_of_ble_eq_true rfl) ?_
  refine r_aload_n (i := 0) dJ10_init_3_4 rfl rfl ?_
  refine r_aload_n (i := 0) dJ10_init_3_5 rfl rfl ?_
  refine r_putR dJ10_init_3_6 fG_J10_7_X14 (fun _ => by first | rfl | contradiction) (by first | assumption | (simp only [kd_sI, kd_sR, kd_sA, kd_sQ, kd_sL, kd_sD, ln_sI, ln_sR, ln_sA, ln_sQ, ln_sL, ln_sD, gI_sR, gI_sA, gI_sQ, gI_sL, gI_sD, gR_sI, gR_sA, gR_sQ, gR_sL, gR_sD, gA_sI, gA_sR, gA_sQ, gA_sL, gA_sD, gQ_sI, gQ_sR, gQ_sA, gQ_sL, gQ_sD, gL_sI, gL_sR, gL_sA, gL_sQ, gL_sD]; assumption) | simp [kd_sI, kd_sR, kd_sA, kd_sQ, kd_sL, kd_sD, ln_sI, ln_sR, ln_sA, ln_sQ, ln_sL, ln_sD, gI_sR, gI_sA, gI_sQ, gI_sL, gI_sD, gR_sI, gR_sA, gR_sQ, gR_sL, gR_sD, gA_sI, gA_sR, gA_sQ, gA_sL, gA_sD, gQ_sI, gQ_sR, gQ_sA, gQ_sL, gQ_sD, gL_sI, gL_sR, gL_sA, gL_sQ, gL_sD, kd_nO, kd_nA, *]) (by first | exact Or.inl ⟨_, rfl⟩ | exact Or.inr ⟨_, rfl⟩) ?_
  refine r_aload_n (i := 0) dJ10_init_3_9 rfl rfl ?_
  refine r_gs_ust dJ10_init_3_10 q412 (fun r10 => ?_)
  refine r_putR dJ10_init_3_13 fG_J10_17_X14 (fun _ => by first | rfl | contradiction) (by first | assumption | (simp only [kd_sI, kd_sR, kd_sA, kd_sQ, kd_sL, kd_sD, ln_sI, ln_sR, ln_sA, ln_sQ, ln_sL, ln_sD, gI_sR, gI_sA, gI_sQ, gI_sL, gI_sD, gR_sI, gR_sA, gR_sQ, gR_sL, gR_sD, gA_sI, gA_sR, gA_sQ, gA_sL, gA_sD, gQ_sI, gQ_sR, gQ_sA, gQ_sL, gQ_sD, gL_sI, gL_sR, gL_sA, gL_sQ, gL_sD]; assumption) | simp [kd_sI, kd_sR, kd_sA, kd_sQ, kd_sL, kd_sD, ln_sI, ln_sR, ln_sA, ln_sQ, ln_sL, ln_sD, gI_sR, gI_sA, gI_sQ, gI_sL, gI_sD, gR_sI, gR_sA, gR_sQ, gR_sL, gR_sD, gA_sI, gA_sR, gA_sQ, gA_sL, gA_sD, gQ_sI, gQ_sR, gQ_sA, gQ_sL, gQ_sD, gL_sI, gL_sR, gL_sA, gL_sQ, gL_sD, kd_nO, kd_nA, *]) (by first | exact Or.inl ⟨_, rfl⟩ | exact Or.inr ⟨_, rfl⟩) ?_
  refine r_aload_n (i := 0) dJ10_init_3_16 rfl rfl ?_
  refine r_gs_ssen dJ10_init_3_17 q414 (fun r17 => ?_)
  refine r_putR dJ10_init_3_20 fG_J10_24_X14 (fun _ => by first | rfl | contradiction) (by first | assumption | (simp only [kd_sI, kd_sR, kd_sA, kd_sQ, kd_sL, kd_sD, ln_sI, ln_sR, ln_sA, ln_sQ, ln_sL, ln_sD, gI_sR, gI_sA, gI_sQ, gI_sL, gI_sD, gR_sI, gR_sA, gR_sQ, gR_sL, gR_sD, gA_sI, gA_sR, gA_sQ, gA_sL, gA_sD, gQ_sI, gQ_sR, gQ_sA, gQ_sL, gQ_sD, gL_sI, gL_sR, gL_sA, gL_sQ, gL_sD]; assumption) | simp [kd_sI, kd_sR, kd_sA, kd_sQ, kd_sL, kd_sD, ln_sI, ln_sR, ln_sA, ln_sQ, ln_sL, ln_sD, gI_sR, gI_sA, gI_sQ, gI_sL, gI_sD, gR_sI, gR_sA, gR_sQ, gR_sL, gR_sD, gA_sI, gA_sR, gA_sQ, gA_sL, gA_sD, gQ_sI, gQ_sR, gQ_sA, gQ_sL, gQ_sD, gL_sI, gL_sR, gL_sA, gL_sQ, gL_sD, kd_nO, kd_nA, *]) (by first | exact Or.inl ⟨_, rfl⟩ | exact Or.inr ⟨_, rfl⟩) ?_
  refine r_iload dJ10_init_3_23 rfl ?_
  refine r_if_eq (tgt := 36) dJ10_init_3_25 (by decide) (fun h25 => ?_) (fun h25 => ?_)
  · refine r_aload_n (i := 0) dJ10_init_3_36 rfl rfl ?_
    refine r_null dJ10_init_3_37 ?_
    refine r_putR dJ10_init_3_38 fG_J10_17_X14 (fun _ => by first | rfl | contradiction) (by first | assumption | (simp only [kd_sI, kd_sR, kd_sA, kd_sQ, kd_sL, kd_sD, ln_sI, ln_sR, ln_sA, ln_sQ, ln_sL, ln_sD, gI_sR, gI_sA, gI_sQ, gI_sL, gI_sD, gR_sI, gR_sA, gR_sQ, gR_sL, gR_sD, gA_sI, gA_sR, gA_sQ, gA_sL, gA_sD, gQ_sI, gQ_sR, gQ_sA, gQ_sL, gQ_sD, gL_sI, gL_sR, gL_sA, gL_sQ, gL_sD]; assumption) | simp [kd_sI, kd_sR, kd_sA, kd_sQ, kd_sL, kd_sD, ln_sI, ln_sR, ln_sA, ln_sQ, ln_sL, ln_sD, gI_sR, gI_sA, gI_sQ, gI_sL, gI_sD, gR_sI, gR_sA, gR_sQ, gR_sL, gR_sD, gA_sI, gA_sR, gA_sQ, gA_sL, gA_sD, gQ_sI, gQ_sR, gQ_sA, gQ_sL, gQ_sD, gL_sI, gL_sR, gL_sA, gL_sQ, gL_sD, kd_nO, kd_nA, *]) (by first | exact Or.inl ⟨_, rfl⟩ | exact Or.inr ⟨_, rfl⟩) ?_
    refine r_aload_n (i := 0) dJ10_init_3_41 rfl rfl ?_
    refine r_aload_n (i := 1) dJ10_init_3_42 rfl rfl ?_
    refine r_putR dJ10_init_3_43 fG_J10_31_X14 (fun _ => by first | rfl | contradiction) (by first | assumption | (simp only [kd_sI, kd_sR, kd_sA, kd_sQ, kd_sL, kd_sD, ln_sI, ln_sR, ln_sA, ln_sQ, ln_sL, ln_sD, gI_sR, gI_sA, gI_sQ, gI_sL, gI_sD, gR_sI, gR_sA, gR_sQ, gR_sL, gR_sD, gA_sI, gA_sR, gA_sQ, gA_sL, gA_sD, gQ_sI, gQ_sR, gQ_sA, gQ_sL, gQ_sD, gL_sI, gL_sR, gL_sA, gL_sQ, gL_sD]; assumption) | simp [kd_sI, kd_sR, kd_sA, kd_sQ, kd_sL, kd_sD, ln_sI, ln_sR, ln_sA, ln_sQ, ln_sL, ln_sD, gI_sR, gI_sA, gI_sQ, gI_sL, gI_sD, gR_sI, gR_sA, gR_sQ, gR_sL, gR_sD, gA_sI, gA_sR, gA_sQ, gA_sL, gA_sD, gQ_sI, gQ_sR, gQ_sA, gQ_sL, gQ_sD, gL_sI, gL_sR, gL_sA, gL_sQ, gL_sD, kd_nO, kd_nA, *]) (by first | exact Or.inl ⟨_, rfl⟩ | exact Or.inr ⟨_, rfl⟩) ?_
    refine r_aload_n (i := 0) dJ10_init_3_46 rfl rfl ?_
    refine r_aload_n (i := 2) dJ10_init_3_47 rfl rfl ?_
    refine r_putR dJ10_init_3_48 fG_J10_7_X14 (fun _ => by first | rfl | contradiction) (by first | assumption | (simp only [kd_sI, kd_sR, kd_sA, kd_sQ, kd_sL, kd_sD, ln_sI, ln_sR, ln_sA, ln_sQ, ln_sL, ln_sD, gI_sR, gI_sA, gI_sQ, gI_sL, gI_sD, gR_sI, gR_sA, gR_sQ, gR_sL, gR_sD, gA_sI, gA_sR, gA_sQ, gA_sL, gA_sD, gQ_sI, gQ_sR, gQ_sA, gQ_sL, gQ_sD, gL_sI, gL_sR, gL_sA, gL_sQ, gL_sD]; assumption) | simp [kd_sI, kd_sR, kd_sA, kd_sQ, kd_sL, kd_sD, ln_sI, ln_sR, ln_sA, ln_sQ, ln_sL, ln_sD, gI_sR, gI_sA, gI_sQ, gI_sL, gI_sD, gR_sI, gR_sA, gR_sQ, gR_sL, gR_sD, gA_sI, gA_sR, gA_sQ, gA_sL, gA_sD, gQ_sI, gQ_sR, gQ_sA, gQ_sL, gQ_sD, gL_sI, gL_sR, gL_sA, gL_sQ, gL_sD, kd_nO, kd_nA, *]) (by first | exact Or.inl ⟨_, rfl⟩ | exact Or.inr ⟨_, rfl⟩) ?_
    refine r_iload_n (i := 3) dJ10_init_3_51 rfl rfl ?_
    refine r_if_ne (tgt := 60) dJ10_init_3_52 (by decide) (fun h52 => ?_) (fun h52 => ?_)
    · exact absurd h52 (by decide)
    · refine r_aload_n (i := 0) dJ10_init_3_55 rfl rfl ?_
      refine r_null dJ10_init_3_56 ?_
      refine r_putR dJ10_init_3_57 fG_J10_24_X14 (fun _ => by first | rfl | contradiction) (by first | assumption | (simp only [kd_sI, kd_sR, kd_sA, kd_sQ, kd_sL, kd_sD, ln_sI, ln_sR, ln_sA, ln_sQ, ln_sL, ln_sD, gI_sR, gI_sA, gI_sQ, gI_sL, gI_sD, gR_sI, gR_sA, gR_sQ, gR_sL, gR_sD, gA_sI, gA_sR, gA_sQ, gA_sL, gA_sD, gQ_sI, gQ_sR, gQ_sA, gQ_sL, gQ_sD, gL_sI, gL_sR, gL_sA, gL_sQ, gL_sD]; assumption) | simp [kd_sI, kd_sR, kd_sA, kd_sQ, kd_sL, kd_sD, ln_sI, ln_sR, ln_sA, ln_sQ, ln_sL, ln_sD, gI_sR, gI_sA, gI_sQ, gI_sL, gI_sD, gR_sI, gR_sA, gR_sQ, gR_sL, gR_sD, gA_sI, gA_sR, gA_sQ, gA_sL, gA_sD, gQ_sI, gQ_sR, gQ_sA, gQ_sL, gQ_sD, gL_sI, gL_sR, gL_sA, gL_sQ, gL_sD, kd_nO, kd_nA, *]) (by first | exact Or.inl ⟨_, rfl⟩ | exact Or.inr ⟨_, rfl⟩) ?_
      refine r_return dJ10_init_3_60 rfl ?_
      refine hQ _ (((((((Ks.rf (S := fun b => b = a)).sR (fun _ => rfl)).sR (fun _ => rfl)).sR (fun _ => rfl)).sR (fun _ => rfl)).sR (fun _ => rfl)).sR (fun _ => rfl) |>.sR (fun _ => rfl)) ?_
      rw [gR_sRn (by decide), gR_sRs]
  · exact absurd rfl h25
theorem s_excInitX14 {a : Nat} {r : Option Nat} (hd : 2 ≤ d) (hk : kd H a = 10) (hQ : ∀ H', Ks (fun b => b = a) H H' → gR H' 38 a = r → Qr none H') : AMet G d 0 0 yJ11_init_3 wJ11_init_3 H [vR (some a), vR none, vR r, vI (nI 0), vI (nI 0)] Qr Qx := by
  refine AMet.of (M := mJ11_init_3) (maxL := 5) (by first | rfl | decide +kernel) rfl (Nat.le_of_ble_eq_true rfl) ?_
  show AW mJ11_init_3 _ _ _ _ _ _ _ 0 [some (vR (some a)), some (vR none), some (vR r), some (vI (nI 0)), some (vI (nI 0))] []
  refine r_aload_n (i := 0) dJ11_init_3_0 rfl rfl ?_
  refine r_aload_n (i := 1) dJ11_init_3_1 rfl rfl ?_
  refine r_aload_n (i := 2) dJ11_init_3_2 rfl rfl ?_
  refine r_iload_n (i := 3) dJ11_init_3_3 rfl rfl ?_
  refine r_iload dJ11_init_3_4 rfl ?_
  refine r_callI (As := [_, _, _, _]) (mc' := 0) (ms' := 0) dJ11_init_3_6 k_J11_16 rfl (by first | assumption | omega) (by first | assumption | omega) (by first | assumption | omega) (Nat.le_of_ble_eq_true rfl) ?_
  refine s_thrInitX14 (by omega) hk (fun H' h1 h2 => ?_)
  show AW mJ11_init_3 G d Qr Qx _ _ _ 9 _ _
  refine r_return dJ11_init_3_9 rfl ?_
  exact hQ H' h1 h2
theorem s_thrInitX17 {a : Nat} {r : Option Nat} (hd : 1 ≤ d) (hk : kd H a = 15) (hQ : ∀ H', Ks (fun b => b = a) H H' → gR H' 38 a = r → Qr none H') : AMet G d 0 0 yJ10_init_3 wJ10_init_3 H [vR (some a), vR none, vR r, vI (nI 0), vI (nI 0)] Qr Qx := by
  refine AMet.of (M := mJ10_init_3) (maxL := 5) (by first | rfl | decide +kernel) rfl (Nat.le_of_ble_eq_true rfl) ?_
  show AW mJ10_init_3 _ _ _ _ _ _ _ 0 [some (vR (some a)), some (vR none), some (vR r), some (vI (nI 0)), some (vI (nI 0))] []
  refine r_aload_n (i := 0) dJ10_init_3_0 rfl rfl ?_
  refine r_objInit dJ10_init_3_1 q411 (by with_reducible rfl) (by first | assumption | omega) (Nat.le_of_ble_eq_true rfl) ?_
  refine r_aload_n (i := 0) dJ10_init_3_4 rfl rfl ?_
  refine r_aload_n (i := 0) dJ10_init_3_5 rfl rfl ?_
  refine r_putR dJ10_init_3_6 fG_J10_7_X17 (fun _ => by first | rfl | contradiction) (by first | assumption | (simp only [kd_sI, kd_sR, kd_sA, kd_sQ, kd_sL, kd_sD, ln_sI, ln_sR, ln_sA, ln_sQ, ln_sL, ln_sD, gI_sR, gI_sA, gI_sQ, gI_sL, gI_sD, gR_sI, gR_sA, gR_sQ, gR_sL, gR_sD, gA_sI, gA_sR, gA_sQ, gA_sL, gA_sD, gQ_sI, gQ_sR, gQ_sA, gQ_sL, gQ_sD, gL_sI, gL_sR, gL_sA, gL_sQ, gL_sD]; assumption) | simp [kd_sI, kd_sR, kd_sA, kd_sQ, kd_sL, kd_sD, ln_sI, ln_sR, ln_sA, ln_sQ, ln_sL, ln_sD, gI_sR, gI_sA, gI_sQ, gI_sL, gI_sD, gR_sI, gR_sA, gR_sQ, gR_sL, gR_sD, gA_sI, gA_sR, gA_sQ, gA_sL, gA_sD, gQ_sI, gQ_sR, gQ_sA, gQ_sL, gQ_sD, gL_sI, gL_sR, gL_sA, gL_sQ, gL_sD, kd_nO, kd_nA, *]) (by first | exact Or.inl ⟨_, rfl⟩ | exact Or.inr ⟨_, rfl⟩) ?_
  refine r_aload_n (i := 0) dJ10_init_3_9 rfl rfl ?_
  refine r_gs_ust dJ10_init_3_10 q412 (fun r10 => ?_)
  refine r_putR dJ10_init_3_13 fG_J10_17_X17 (fun _ => by first | rfl | contradiction) (by first | assumption | (simp only [kd_sI, kd_sR, kd_sA, kd_sQ, kd_sL, kd_sD, ln_sI, ln_sR, ln_sA, ln_sQ, ln_sL, ln_sD, gI_sR, gI_sA, gI_sQ, gI_sL, gI_sD, gR_sI, gR_sA, gR_sQ, gR_sL, gR_sD, gA_sI, gA_sR, gA_sQ, gA_sL, gA_sD, gQ_sI, gQ_sR, gQ_sA, gQ_sL, gQ_sD, gL_sI, gL_sR, gL_sA, gL_sQ, gL_sD]; assumption) | simp [kd_sI, kd_sR, kd_sA, kd_sQ, kd_sL, kd_sD, ln_sI, ln_sR, ln_sA, ln_sQ, ln_sL, ln_sD, gI_sR, gI_sA, gI_sQ, gI_sL, gI_sD, gR_sI, gR_sA, gR_sQ, gR_sL, gR_sD, gA_sI, gA_sR, gA_sQ, gA_sL, gA_sD, gQ_sI, gQ_sR, gQ_sA, gQ_sL, gQ_sD, gL_sI, gL_sR, gL_sA, gL_sQ, gL_sD, kd_nO, kd_nA, *]) (by first | exact Or.inl ⟨_, rfl⟩ | exact Or.inr ⟨_, rfl⟩) ?_
  refine r_aload_n (i := 0) dJ10_init_3_16 rfl rfl ?_
  refine r_gs_ssen dJ10_init_3_17 q414 (fun r17 => ?_)
  refine r_putR dJ10_init_3_20 fG_J10_24_X17 (fun _ => by first | rfl | contradiction) (by first | assumption | (simp only [kd_sI, kd_sR, kd_sA, kd_sQ, kd_sL, kd_sD, ln_sI, ln_sR, ln_sA, ln_sQ, ln_sL, ln_sD, gI_sR, gI_sA, gI_sQ, gI_sL, gI_sD, gR_sI, gR_sA, gR_sQ, gR_sL, gR_sD, gA_sI, gA_sR, gA_sQ, gA_sL, gA_sD, gQ_sI, gQ_sR, gQ_sA, gQ_sL, gQ_sD, gL_sI, gL_sR, gL_sA, gL_sQ, gL_sD]; assumption) | simp [kd_sI, kd_sR, kd_sA, kd_sQ, kd_sL, kd_sD, ln_sI, ln_sR, ln_sA, ln_sQ, ln_sL, ln_sD, gI_sR, gI_sA, gI_sQ, gI_sL, gI_sD, gR_sI, gR_sA, gR_sQ, gR_sL, gR_sD, gA_sI, gA_sR, gA_sQ, gA_sL, gA_sD, gQ_sI, gQ_sR, gQ_sA, gQ_sL, gQ_sD, gL_sI, gL_sR, gL_sA, gL_sQ, gL_sD, kd_nO, kd_nA, *]) (by first | exact Or.inl ⟨_, rfl⟩ | exact Or.inr ⟨_, rfl⟩) ?_
  refine r_iload dJ10_init_3_23 rfl ?_
  refine r_if_eq (tgt := 36) dJ10_init_3_25 (by decide) (fun h25 => ?_) (fun h25 => ?_)
  · refine r_aload_n (i := 0) dJ10_init_3_36 rfl rfl ?_
    refine r_null dJ10_init_3_37 ?_
    refine r_putR dJ10_init_3_38 fG_J10_17_X17 (fun _ => by first | rfl | contradiction) (by first | assumption | (simp only [kd_sI, kd_sR, kd_sA, kd_sQ, kd_sL, kd_sD, ln_sI, ln_sR, ln_sA, ln_sQ, ln_sL, ln_sD, gI_sR, gI_sA, gI_sQ, gI_sL, gI_sD, gR_sI, gR_sA, gR_sQ, gR_sL, gR_sD, gA_sI, gA_sR, gA_sQ, gA_sL, gA_sD, gQ_sI, gQ_sR, gQ_sA, gQ_sL, gQ_sD, gL_sI, gL_sR, gL_sA, gL_sQ, gL_sD]; assumption) | simp [kd_sI, kd_sR, kd_sA, kd_sQ, kd_sL, kd_sD, ln_sI, ln_sR, ln_sA, ln_sQ, ln_sL, ln_sD, gI_sR, gI_sA, gI_sQ, gI_sL, gI_sD, gR_sI, gR_sA, gR_sQ, gR_sL, gR_sD, gA_sI, gA_sR, gA_sQ, gA_sL, gA_sD, gQ_sI, gQ_sR, gQ_sA, gQ_sL, gQ_sD, gL_sI, gL_sR, gL_sA, gL_sQ, gL_sD, kd_nO, kd_nA, *]) (by first | exact Or.inl ⟨_, rfl⟩ | exact Or.inr ⟨_, rfl⟩) ?_
    refine r_aload_n (i := 0) dJ10_init_3_41 rfl rfl ?_
    refine r_aload_n (i := 1) dJ10_init_3_42 rfl rfl ?_
    refine r_putR dJ10_init_3_43 fG_J10_31_X17 (fun _ => by first | rfl | contradiction) (by first | assumption | (simp only [kd_sI, kd_sR, kd_sA, kd_sQ, kd_sL, kd_sD, ln_sI, ln_sR, ln_sA, ln_sQ, ln_sL, ln_sD, gI_sR, gI_sA, gI_sQ, gI_sL, gI_sD, gR_sI, gR_sA, gR_sQ, gR_sL, gR_sD, gA_sI, gA_sR, gA_sQ, gA_sL, gA_sD, gQ_sI, gQ_sR, gQ_sA, gQ_sL, gQ_sD, gL_sI, gL_sR, gL_sA, gL_sQ, gL_sD]; assumption) | simp [kd_sI, kd_sR, kd_sA, kd_sQ, kd_sL, kd_sD, ln_sI, ln_sR, ln_sA, ln_sQ, ln_sL, ln_sD, gI_sR, gI_sA, gI_sQ, gI_sL, gI_sD, gR_sI, gR_sA, gR_sQ, gR_sL, gR_sD, gA_sI, gA_sR, gA_sQ, gA_sL, gA_sD, gQ_sI, gQ_sR, gQ_sA, gQ_sL, gQ_sD, gL_sI, gL_sR, gL_sA, gL_sQ, gL_sD, kd_nO, kd_nA, *]) (by first | exact Or.inl ⟨_, rfl⟩ | exact Or.inr ⟨_, rfl⟩) ?_
    refine r_aload_n (i := 0) dJ10_init_3_46 rfl rfl ?_
    refine r_aload_n (i := 2) dJ10_init_3_47 rfl rfl ?_
    refine r_putR dJ10_init_3_48 fG_J10_7_X17 (fun _ => by first | rfl | contradiction) (by first | assumption | (simp only [kd_sI, kd_sR, kd_sA, kd_sQ, kd_sL, kd_sD, ln_sI, ln_sR, ln_sA, ln_sQ, ln_sL, ln_sD, gI_sR, gI_sA, gI_sQ, gI_sL, gI_sD, gR_sI, gR_sA, gR_sQ, gR_sL, gR_sD, gA_sI, gA_sR, gA_sQ, gA_sL, gA_sD, gQ_sI, gQ_sR, gQ_sA, gQ_sL, gQ_sD, gL_sI, gL_sR, gL_sA, gL_sQ, gL_sD]; assumption) | simp [kd_sI, kd_sR, kd_sA, kd_sQ, kd_sL, kd_sD, ln_sI, ln_sR, ln_sA, ln_sQ, ln_sL, ln_sD, gI_sR, gI_sA, gI_sQ, gI_sL, gI_sD, gR_sI, gR_sA, gR_sQ, gR_sL, gR_sD, gA_sI, gA_sR, gA_sQ, gA_sL, gA_sD, gQ_sI, gQ_sR, gQ_sA, gQ_sL, gQ_sD, gL_sI, gL_sR, gL_sA, gL_sQ, gL_sD, kd_nO, kd_nA, *]) (by first | exact Or.inl ⟨_, rfl⟩ | exact Or.inr ⟨_, rfl⟩) ?_
    refine r_iload_n (i := 3) dJ10_init_3_51 rfl rfl ?_
    refine r_if_ne (tgt := 60) dJ10_init_3_52 (by decide) (fun h52 => ?_) (fun h52 => ?_)
    · exact absurd h52 (by decide)
    · refine r_aload_n (i := 0) dJ10_init_3_55 rfl rfl ?_
      refine r_null dJ10_init_3_56 ?_
      refine r_putR dJ10_init_3_57 fG_J10_24_X17 (fun _ => by first | rfl | contradiction) (by first | assumption | (simp only [kd_sI, kd_sR, kd_sA, kd_sQ, kd_sL, kd_sD, ln_sI, ln_sR, ln_sA, ln_sQ, ln_sL, ln_sD, gI_sR, gI_sA, gI_sQ, gI_sL, gI_sD, gR_sI, gR_sA, gR_sQ, gR_sL, gR_sD, gA_sI, gA_sR, gA_sQ, gA_sL, gA_sD, gQ_sI, gQ_sR, gQ_sA, gQ_sL, gQ_sD, gL_sI, gL_sR, gL_sA, gL_sQ, gL_sD]; assumption) | simp [kd_sI, kd_sR, kd_sA, kd_sQ, kd_sL, kd_sD, ln_sI, ln_sR, ln_sA, ln_sQ, ln_sL, ln_sD, gI_sR, gI_sA, gI_sQ, gI_sL, gI_sD, gR_sI, gR_sA, gR_sQ, gR_sL, gR_sD, gA_sI, gA_sR, gA_sQ, gA_sL, gA_sD, gQ_sI, gQ_sR, gQ_sA, gQ_sL, gQ_sD, gL_sI, gL_sR, gL_sA, gL_sQ, gL_sD, kd_nO, kd_nA, *]) (by first | exact Or.inl ⟨_, rfl⟩ | exact Or.inr ⟨_, rfl⟩) ?_
      refine r_return dJ10_init_3_60 rfl ?_
      refine hQ _ (((((((Ks.rf (S := fun b => b = a)).sR (fun _ => rfl)).sR (fun _ => rfl)).sR (fun _ => rfl)).sR (fun _ => rfl)).sR (fun _ => rfl)).sR (fun _ => rfl) |>.sR (fun _ => rfl)) ?_
      rw [gR_sRn (by decide), gR_sRs]
  · exact absurd rfl h25
theorem s_excInitX17 {a : Nat} {r : Option Nat} (hd : 2 ≤ d) (hk : kd H a = 15) (hQ : ∀ H', Ks (fun b => b = a) H H' → gR H' 38 a = r → Qr none H') : AMet G d 0 0 yJ11_init_3 wJ11_init_3 H [vR (some a), vR none, vR r, vI (nI 0), vI (nI 0)] Qr Qx := by
  refine AMet.of (M := mJ11_init_3) (maxL := 5) (by first | rfl | decide +kernel) rfl (Nat.le_of_ble_eq_true rfl) ?_
  show AW mJ11_init_3 _ _ _ _ _ _ _ 0 [some (vR (some a)), some (vR none), some (vR r), some (vI (nI 0)), some (vI (nI 0))] []
  refine r_aload_n (i := 0) dJ11_init_3_0 rfl rfl ?_
  refine r_aload_n (i := 1) dJ11_init_3_1 rfl rfl ?_
  refine r_aload_n (i := 2) dJ11_init_3_2 rfl rfl ?_
  refine r_iload_n (i := 3) dJ11_init_3_3 rfl rfl ?_
  refine r_iload dJ11_init_3_4 rfl ?_
  refine r_callI (As := [_, _, _, _]) (mc' := 0) (ms' := 0) dJ11_init_3_6 k_J11_16 rfl (by first | assumption | omega) (by first | assumption | omega) (by first | assumption | omega) (Nat.le_of_ble_eq_true rfl) ?_
  refine s_thrInitX17 (by omega) hk (fun H' h1 h2 => ?_)
  show AW mJ11_init_3 G d Qr Qx _ _ _ 9 _ _
  refine r_return dJ11_init_3_9 rfl ?_
  exact hQ H' h1 h2
theorem s_thrInitX20 {a : Nat} {r : Option Nat} (hd : 1 ≤ d) (hk : kd H a = 18) (hQ : ∀ H', Ks (fun b => b = a) H H' → gR H' 38 a = r → Qr none H') : AMet G d 0 0 yJ10_init_3 wJ10_init_3 H [vR (some a), vR none, vR r, vI (nI 0), vI (nI 0)] Qr Qx := by
  refine AMet.of (M := mJ10_init_3) (maxL := 5) (by first | rfl | decide +kernel) rfl (Nat.le_of_ble_eq_true rfl) ?_
  show AW mJ10_init_3 _ _ _ _ _ _ _ 0 [some (vR (some a)), some (vR none), some (vR r), some (vI (nI 0)), some (vI (nI 0))] []
  refine r_aload_n (i := 0) dJ10_init_3_0 rfl rfl ?_
  refine r_objInit dJ10_init_3_1 q411 (by with_reducible rfl) (by first | assumption | omega) (Nat.le_of_ble_eq_true rfl) ?_
  refine r_aload_n (i := 0) dJ10_init_3_4 rfl rfl ?_
  refine r_aload_n (i := 0) dJ10_init_3_5 rfl rfl ?_
  refine r_putR dJ10_init_3_6 fG_J10_7_X20 (fun _ => by first | rfl | contradiction) (by first | assumption | (simp only [kd_sI, kd_sR, kd_sA, kd_sQ, kd_sL, kd_sD, ln_sI, ln_sR, ln_sA, ln_sQ, ln_sL, ln_sD, gI_sR, gI_sA, gI_sQ, gI_sL, gI_sD, gR_sI, gR_sA, gR_sQ, gR_sL, gR_sD, gA_sI, gA_sR, gA_sQ, gA_sL, gA_sD, gQ_sI, gQ_sR, gQ_sA, gQ_sL, gQ_sD, gL_sI, gL_sR, gL_sA, gL_sQ, gL_sD]; assumption) | simp [kd_sI, kd_sR, kd_sA, kd_sQ, kd_sL, kd_sD, ln_sI, ln_sR, ln_sA, ln_sQ, ln_sL, ln_sD, gI_sR, gI_sA, gI_sQ, gI_sL, gI_sD, gR_sI, gR_sA, gR_sQ, gR_sL, gR_sD, gA_sI, gA_sR, gA_sQ, gA_sL, gA_sD, gQ_sI, gQ_sR, gQ_sA, gQ_sL, gQ_sD, gL_sI, gL_sR, gL_sA, gL_sQ, gL_sD, kd_nO, kd_nA, *]) (by first | exact Or.inl ⟨_, rfl⟩ | exact Or.inr ⟨_, rfl⟩) ?_
  refine r_aload_n (i := 0) dJ10_init_3_9 rfl rfl ?_
  refine r_gs_ust dJ10_init_3_10 q412 (fun r10 => ?_)
  refine r_putR dJ10_init_3_13 fG_J10_17_X20 (fun _ => by first | rfl | contradiction) (by first | assumption | (simp only [kd_sI, kd_sR, kd_sA, kd_sQ, kd_sL, kd_sD, ln_sI, ln_sR, ln_sA, ln_sQ, ln_sL, ln_sD, gI_sR, gI_sA, gI_sQ, gI_sL, gI_sD, gR_sI, gR_sA, gR_sQ, gR_sL, gR_sD, gA_sI, gA_sR, gA_sQ, gA_sL, gA_sD, gQ_sI, gQ_sR, gQ_sA, gQ_sL, gQ_sD, gL_sI, gL_sR, gL_sA, gL_sQ, gL_sD]; assumption) | simp [kd_sI, kd_sR, kd_sA, kd_sQ, kd_sL, kd_sD, ln_sI, ln_sR, ln_sA, ln_sQ, ln_sL, ln_sD, gI_sR, gI_sA, gI_sQ, gI_sL, gI_sD, gR_sI, gR_sA, gR_sQ, gR_sL, gR_sD, gA_sI, gA_sR, gA_sQ, gA_sL, gA_sD, gQ_sI, gQ_sR, gQ_sA, gQ_sL, gQ_sD, gL_sI, gL_sR, gL_sA, gL_sQ, gL_sD, kd_nO, kd_nA, *]) (by first | exact Or.inl ⟨_, rfl⟩ | exact Or.inr ⟨_, rfl⟩) ?_
  refine r_aload_n (i := 0) dJ10_init_3_16 rfl rfl ?_
  refine r_gs_ssen dJ10_init_3_17 q414 (fun r17 => ?_)
  refine r_putR dJ10_init_3_20 fG_J10_24_X20 (fun _ => by first | rfl | contradiction) (by first | assumption | (simp only [kd_sI, kd_sR, kd_sA, kd_sQ, kd_sL, kd_sD, ln_sI, ln_sR, ln_sA, ln_sQ, ln_sL, ln_sD, gI_sR, gI_sA, gI_sQ, gI_sL, gI_sD, gR_sI, gR_sA, gR_sQ, gR_sL, gR_sD, gA_sI, gA_sR, gA_sQ, gA_sL, gA_sD, gQ_sI, gQ_sR, gQ_sA, gQ_sL, gQ_sD, gL_sI, gL_sR, gL_sA, gL_sQ, gL_sD]; assumption) | simp [kd_sI, kd_sR, kd_sA, kd_sQ, kd_sL, kd_sD, ln_sI, ln_sR, ln_sA, ln_sQ, ln_sL, ln_sD, gI_sR, gI_sA, gI_sQ, gI_sL, gI_sD, gR_sI, gR_sA, gR_sQ, gR_sL, gR_sD, gA_sI, gA_sR, gA_sQ, gA_sL, gA_sD, gQ_sI, gQ_sR, gQ_sA, gQ_sL, gQ_sD, gL_sI, gL_sR, gL_sA, gL_sQ, gL_sD, kd_nO, kd_nA, *]) (by first | exact Or.inl ⟨_, rfl⟩ | exact Or.inr ⟨_, rfl⟩) ?_
  refine r_iload dJ10_init_3_23 rfl ?_
  refine r_if_eq (tgt := 36) dJ10_init_3_25 (by decide) (fun h25 => ?_) (fun h25 => ?_)
  · refine r_aload_n (i := 0) dJ10_init_3_36 rfl rfl ?_
    refine r_null dJ10_init_3_37 ?_
    refine r_putR dJ10_init_3_38 fG_J10_17_X20 (fun _ => by first | rfl | contradiction) (by first | assumption | (simp only [kd_sI, kd_sR, kd_sA, kd_sQ, kd_sL, kd_sD, ln_sI, ln_sR, ln_sA, ln_sQ, ln_sL, ln_sD, gI_sR, gI_sA, gI_sQ, gI_sL, gI_sD, gR_sI, gR_sA, gR_sQ, gR_sL, gR_sD, gA_sI, gA_sR, gA_sQ, gA_sL, gA_sD, gQ_sI, gQ_sR, gQ_sA, gQ_sL, gQ_sD, gL_sI, gL_sR, gL_sA, gL_sQ, gL_sD]; assumption) | simp [kd_sI, kd_sR, kd_sA, kd_sQ, kd_sL, kd_sD, ln_sI, ln_sR, ln_sA, ln_sQ, ln_sL, ln_sD, gI_sR, gI_sA, gI_sQ, gI_sL, gI_sD, gR_sI, gR_sA, gR_sQ, gR_sL, gR_sD, gA_sI, gA_sR, gA_sQ, gA_sL, gA_sD, gQ_sI, gQ_sR, gQ_sA, gQ_sL, gQ_sD, gL_sI, gL_sR, gL_sA, gL_sQ, gL_sD, kd_nO, kd_nA, *]) (by first | exact Or.inl ⟨_, rfl⟩ | exact Or.inr ⟨_, rfl⟩) ?_
    refine r_aload_n (i := 0) dJ10_init_3_41 rfl rfl ?_
    refine r_aload_n (i := 1) dJ10_init_3_42 rfl rfl ?_
    refine r_putR dJ10_init_3_43 fG_J10_31_X20 (fun _ => by first | rfl | contradiction) (by first | assumption | (simp only [kd_sI, kd_sR, kd_sA, kd_sQ, kd_sL, kd_sD, ln_sI, ln_sR, ln_sA, ln_sQ, ln_sL, ln_sD, gI_sR, gI_sA, gI_sQ, gI_sL, gI_sD, gR_sI, gR_sA, gR_sQ, gR_sL, gR_sD, gA_sI, gA_sR, gA_sQ, gA_sL, gA_sD, gQ_sI, gQ_sR, gQ_sA, gQ_sL, gQ_sD, gL_sI, gL_sR, gL_sA, gL_sQ, gL_sD]; assumption) | simp [kd_sI, kd_sR, kd_sA, kd_sQ, kd_sL, kd_sD, ln_sI, ln_sR, ln_sA, ln_sQ, ln_sL, ln_sD, gI_sR, gI_sA, gI_sQ, gI_sL, gI_sD, gR_sI, gR_sA, gR_sQ, gR_sL, gR_sD, gA_sI, gA_sR, gA_sQ, gA_sL, gA_sD, gQ_sI, gQ_sR, gQ_sA, gQ_sL, gQ_sD, gL_sI, gL_sR, gL_sA, gL_sQ, gL_sD, kd_nO, kd_nA, *]) (by first | exact Or.inl ⟨_, rfl⟩ | exact Or.inr ⟨_, rfl⟩) ?_
    refine r_aload_n (i := 0) dJ10_init_3_46 rfl rfl ?_
    refine r_aload_n (i := 2) dJ10_init_3_47 rfl rfl ?_
    refine r_putR dJ10_init_3_48 fG_J10_7_X20 (fun _ => by first | rfl | contradiction) (by first | assumption | (simp only [kd_sI, kd_sR, kd_sA, kd_sQ, kd_sL, kd_sD, ln_sI, ln_sR, ln_sA, ln_sQ, ln_sL, ln_sD, gI_sR, gI_sA, gI_sQ, gI_sL, gI_sD, gR_sI, gR_sA, gR_sQ, gR_sL, gR_sD, gA_sI, gA_sR, gA_sQ, gA_sL, gA_sD, gQ_sI, gQ_sR, gQ_sA, gQ_sL, gQ_sD, gL_sI, gL_sR, gL_sA, gL_sQ, gL_sD]; assumption) | simp [kd_sI, kd_sR, kd_sA, kd_sQ, kd_sL, kd_sD, ln_sI, ln_sR, ln_sA, ln_sQ, ln_sL, ln_sD, gI_sR, gI_sA, gI_sQ, gI_sL, gI_sD, gR_sI, gR_sA, gR_sQ, gR_sL, gR_sD, gA_sI, gA_sR, gA_sQ, gA_sL, gA_sD, gQ_sI, gQ_sR, gQ_sA, gQ_sL, gQ_sD, gL_sI, gL_sR, gL_sA, gL_sQ, gL_sD, kd_nO, kd_nA, *]) (by first | exact Or.inl ⟨_, rfl⟩ | exact Or.inr ⟨_, rfl⟩) ?_
    refine r_iload_n (i := 3) dJ10_init_3_51 rfl rfl ?_
    refine r_if_ne (tgt := 60) dJ10_init_3_52 (by decide) (fun h52 => ?_) (fun h52 => ?_)
    · exact absurd h52 (by decide)
    · refine r_aload_n (i := 0) dJ10_init_3_55 rfl rfl ?_
      refine r_null dJ10_init_3_56 ?_
      refine r_putR dJ10_init_3_57 fG_J10_24_X20 (fun _ => by first | rfl | contradiction) (by first | assumption | (simp only [kd_sI, kd_sR, kd_sA, kd_sQ, kd_sL, kd_sD, ln_sI, ln_sR, ln_sA, ln_sQ, ln_sL, ln_sD, gI_sR, gI_sA, gI_sQ, gI_sL, gI_sD, gR_sI, gR_sA, gR_sQ, gR_sL, gR_sD, gA_sI, gA_sR, gA_sQ, gA_sL, gA_sD, gQ_sI, gQ_sR, gQ_sA, gQ_sL, gQ_sD, gL_sI, gL_sR, gL_sA, gL_sQ, gL_sD]; assumption) | simp [kd_sI, kd_sR, kd_sA, kd_sQ, kd_sL, kd_sD, ln_sI, ln_sR, ln_sA, ln_sQ, ln_sL, ln_sD, gI_sR, gI_sA, gI_sQ, gI_sL, gI_sD, gR_sI, gR_sA, gR_sQ, gR_sL, gR_sD, gA_sI, gA_sR, gA_sQ, gA_sL, gA_sD, gQ_sI, gQ_sR, gQ_sA, gQ_sL, gQ_sD, gL_sI, gL_sR, gL_sA, gL_sQ, gL_sD, kd_nO, kd_nA, *]) (by first | exact Or.inl ⟨_, rfl⟩ | exact Or.inr ⟨_, rfl⟩) ?_
      refine r_return dJ10_init_3_60 rfl ?_
      refine hQ _ (((((((Ks.rf (S := fun b => b = a)).sR (fun _ => rfl)).sR (fun _ => rfl)).sR (fun _ => rfl)).sR (fun _ => rfl)).sR (fun _ => rfl)).sR (fun _ => rfl) |>.sR (fun _ => rfl)) ?_
      rw [gR_sRn (by decide), gR_sRs]
  · exact absurd rfl h25
theorem s_excInitX20 {a : Nat} {r : Option Nat} (hd : 2 ≤ d) (hk : kd H a = 18) (hQ : ∀ H', Ks (fun b => b = a) H H' → gR H' 38 a = r → Qr none H') : AMet G d 0 0 yJ11_init_3 wJ11_init_3 H [vR (some a), vR none, vR r, vI (nI 0), vI (nI 0)] Qr Qx := by
  refine AMet.of (M := mJ11_init_3) (maxL := 5) (by first | rfl | decide +kernel) rfl (Nat.le_of_ble_eq_true rfl) ?_
  show AW mJ11_init_3 _ _ _ _ _ _ _ 0 [some (vR (some a)), some (vR none), some (vR r), some (vI (nI 0)), some (vI (nI 0))] []
  refine r_aload_n (i := 0) dJ11_init_3_0 rfl rfl ?_
  refine r_aload_n (i := 1) dJ11_init_3_1 rfl rfl ?_
  refine r_aload_n (i := 2) dJ11_init_3_2 rfl rfl ?_
  refine r_iload_n (i := 3) dJ11_init_3_3 rfl rfl ?_
  refine r_iload dJ11_init_3_4 rfl ?_
  refine r_callI (As := [_, _, _, _]) (mc' := 0) (ms' := 0) dJ11_init_3_6 k_J11_16 rfl (by first | assumption | omega) (by first | assumption | omega) (by first | assumption | omega) (Nat.le_of_ble_eq_true rfl) ?_
  refine s_thrInitX20 (by omega) hk (fun H' h1 h2 => ?_)
  show AW mJ11_init_3 G d Qr Qx _ _ _ 9 _ _
  refine r_return dJ11_init_3_9 rfl ?_
  exact hQ H' h1 h2
theorem s_refInitX10 {a : Nat} {x : Int32} {r : Option Nat} (hd : 3 ≤ d) (hk : kd H a = 9) (hQ : ∀ H', Ks (fun b => b = a) H H' → gR H' 38 a = r → gI H' 44 a = x → Qr none H') : AMet G d 0 0 yX10_init wX10_init H [vR (some a), vI x, vR r] Qr Qx := by
  refine AMet.of (M := mX10_init) (maxL := 3) (by first | rfl | decide +kernel) rfl (Nat.le_of_ble_eq_true rfl) ?_
  show AW mX10_init _ _ _ _ _ _ _ 0 [some (vR (some a)), some (vI x), some (vR r)] []
  refine r_aload_n (i := 0) dX10_init_0 rfl rfl ?_
  refine r_null dX10_init_1 ?_
  refine r_aload_n (i := 2) dX10_init_2 rfl rfl ?_
  refine r_iconst (v := nI 0) dX10_init_3 (by decide) ?_
  refine r_iconst (v := nI 0) dX10_init_4 (by decide) ?_
  refine r_callI (As := [_, _, _, _]) (mc' := 0) (ms' := 0) dX10_init_5 k_X10_1 rfl (by first | assumption | omega) (by first | assumption | omega) (by first | assumption | omega) (Nat.le_of_ble_eq_true rfl) ?_
  refine s_excInitX10 (by omega) hk (fun H' h1 h2 => ?_)
  have k1 : kd H' a = 9 := h1.kk hk (by decide)
  show AW mX10_init G d Qr Qx _ _ _ 8 _ _
  refine r_aload_n (i := 0) dX10_init_8 rfl rfl ?_
  refine r_iload_n (i := 1) dX10_init_9 rfl rfl ?_
  refine r_putI dX10_init_10 fG_X10_7 (fun _ => by first | rfl | contradiction) (by first | assumption | (simp only [kd_sI, kd_sR, kd_sA, kd_sQ, kd_sL, kd_sD, ln_sI, ln_sR, ln_sA, ln_sQ, ln_sL, ln_sD, gI_sR, gI_sA, gI_sQ, gI_sL, gI_sD, gR_sI, gR_sA, gR_sQ, gR_sL, gR_sD, gA_sI, gA_sR, gA_sQ, gA_sL, gA_sD, gQ_sI, gQ_sR, gQ_sA, gQ_sL, gQ_sD, gL_sI, gL_sR, gL_sA, gL_sQ, gL_sD]; assumption) | simp [kd_sI, kd_sR, kd_sA, kd_sQ, kd_sL, kd_sD, ln_sI, ln_sR, ln_sA, ln_sQ, ln_sL, ln_sD, gI_sR, gI_sA, gI_sQ, gI_sL, gI_sD, gR_sI, gR_sA, gR_sQ, gR_sL, gR_sD, gA_sI, gA_sR, gA_sQ, gA_sL, gA_sD, gQ_sI, gQ_sR, gQ_sA, gQ_sL, gQ_sD, gL_sI, gL_sR, gL_sA, gL_sQ, gL_sD, kd_nO, kd_nA, *]) (by first | rfl | assumption) (by first | rfl | assumption) ?_
  refine r_return dX10_init_13 rfl ?_
  refine hQ _ (h1.sI (fun _ => rfl)) h2 gI_sIs
theorem s_refInitX14 {a : Nat} {x : Int32} {r : Option Nat} (hd : 3 ≤ d) (hk : kd H a = 10) (hQ : ∀ H', Ks (fun b => b = a) H H' → gR H' 38 a = r → gI H' 44 a = x → Qr none H') : AMet G d 0 0 yX10_init wX10_init H [vR (some a), vI x, vR r] Qr Qx := by
  refine AMet.of (M := mX10_init) (maxL := 3) (by first | rfl | decide +kernel) rfl (Nat.le_of_ble_eq_true rfl) ?_
  show AW mX10_init _ _ _ _ _ _ _ 0 [some (vR (some a)), some (vI x), some (vR r)] []
  refine r_aload_n (i := 0) dX10_init_0 rfl rfl ?_
  refine r_null dX10_init_1 ?_
  refine r_aload_n (i := 2) dX10_init_2 rfl rfl ?_
  refine r_iconst (v := nI 0) dX10_init_3 (by decide) ?_
  refine r_iconst (v := nI 0) dX10_init_4 (by decide) ?_
  refine r_callI (As := [_, _, _, _]) (mc' := 0) (ms' := 0) dX10_init_5 k_X10_1 rfl (by first | assumption | omega) (by first | assumption | omega) (by first | assumption | omega) (Nat.le_of_ble_eq_true rfl) ?_
  refine s_excInitX14 (by omega) hk (fun H' h1 h2 => ?_)
  have k1 : kd H' a = 10 := h1.kk hk (by decide)
  show AW mX10_init G d Qr Qx _ _ _ 8 _ _
  refine r_aload_n (i := 0) dX10_init_8 rfl rfl ?_
  refine r_iload_n (i := 1) dX10_init_9 rfl rfl ?_
  refine r_putI dX10_init_10 fG_X10_7_X14 (fun _ => by first | rfl | contradiction) (by first | assumption | (simp only [kd_sI, kd_sR, kd_sA, kd_sQ, kd_sL, kd_sD, ln_sI, ln_sR, ln_sA, ln_sQ, ln_sL, ln_sD, gI_sR, gI_sA, gI_sQ, gI_sL, gI_sD, gR_sI, gR_sA, gR_sQ, gR_sL, gR_sD, gA_sI, gA_sR, gA_sQ, gA_sL, gA_sD, gQ_sI, gQ_sR, gQ_sA, gQ_sL, gQ_sD, gL_sI, gL_sR, gL_sA, gL_sQ, gL_sD]; assumption) | simp [kd_sI, kd_sR, kd_sA, kd_sQ, kd_sL, kd_sD, ln_sI, ln_sR, ln_sA, ln_sQ, ln_sL, ln_sD, gI_sR, gI_sA, gI_sQ, gI_sL, gI_sD, gR_sI, gR_sA, gR_sQ, gR_sL, gR_sD, gA_sI, gA_sR, gA_sQ, gA_sL, gA_sD, gQ_sI, gQ_sR, gQ_sA, gQ_sL, gQ_sD, gL_sI, gL_sR, gL_sA, gL_sQ, gL_sD, kd_nO, kd_nA, *]) (by first | rfl | assumption) (by first | rfl | assumption) ?_
  refine r_return dX10_init_13 rfl ?_
  refine hQ _ (h1.sI (fun _ => rfl)) h2 gI_sIs
theorem s_noRoomInit {a : Nat} {r : Option Nat} (hd : 4 ≤ d) (hk : kd H a = 10) (hQ : ∀ H', Ks (fun b => b = a) H H' → gR H' 38 a = r → gI H' 44 a = nI 4 → Qr none H') : AMet G d 0 0 yX14_init wX14_init H [vR (some a), vR r] Qr Qx := by
  refine AMet.of (M := mX14_init) (maxL := 2) (by first | rfl | decide +kernel) rfl (Nat.le_of_ble_eq_true rfl) ?_
  show AW mX14_init _ _ _ _ _ _ _ 0 [some (vR (some a)), some (vR r)] []
  refine r_aload_n (i := 0) dX14_init_0 rfl rfl ?_
  refine r_iconst (v := nI 4) dX14_init_1 (by decide) ?_
  refine r_aload_n (i := 1) dX14_init_2 rfl rfl ?_
  refine r_callI (As := [_, _]) (mc' := 0) (ms' := 0) dX14_init_3 k_X14_1 rfl (by first | assumption | omega) (by first | assumption | omega) (by first | assumption | omega) (Nat.le_of_ble_eq_true rfl) ?_
  refine s_refInitX14 (by omega) hk (fun H' h1 h2 h3 => ?_)
  show AW mX14_init G d Qr Qx _ _ _ 6 _ _
  refine r_return dX14_init_6 rfl ?_
  exact hQ H' h1 h2 h3
theorem s_synInit {a : Nat} {x : Int32} (hd : 3 ≤ d) (hk : kd H a = 15) (hQ : ∀ H', Ks (fun b => b = a) H H' → gI H' 60 a = x → Qr none H') : AMet G d 0 0 yX17_init wX17_init H [vR (some a), vI x] Qr Qx := by
  refine AMet.of (M := mX17_init) (maxL := 2) (by first | rfl | decide +kernel) rfl (Nat.le_of_ble_eq_true rfl) ?_
  show AW mX17_init _ _ _ _ _ _ _ 0 [some (vR (some a)), some (vI x)] []
  refine r_aload_n (i := 0) dX17_init_0 rfl rfl ?_
  refine r_null dX17_init_1 ?_
  refine r_null dX17_init_2 ?_
  refine r_iconst (v := nI 0) dX17_init_3 (by decide) ?_
  refine r_iconst (v := nI 0) dX17_init_4 (by decide) ?_
  refine r_callI (As := [_, _, _, _]) (mc' := 0) (ms' := 0) dX17_init_5 k_X17_1 rfl (by first | assumption | omega) (by first | assumption | omega) (by first | assumption | omega) (Nat.le_of_ble_eq_true rfl) ?_
  refine s_excInitX17 (by omega) hk (fun H' h1 h2 => ?_)
  have k1 : kd H' a = 15 := h1.kk hk (by decide)
  show AW mX17_init G d Qr Qx _ _ _ 8 _ _
  refine r_aload_n (i := 0) dX17_init_8 rfl rfl ?_
  refine r_iload_n (i := 1) dX17_init_9 rfl rfl ?_
  refine r_putI dX17_init_10 fG_X17_7 (fun _ => by first | rfl | contradiction) (by first | assumption | (simp only [kd_sI, kd_sR, kd_sA, kd_sQ, kd_sL, kd_sD, ln_sI, ln_sR, ln_sA, ln_sQ, ln_sL, ln_sD, gI_sR, gI_sA, gI_sQ, gI_sL, gI_sD, gR_sI, gR_sA, gR_sQ, gR_sL, gR_sD, gA_sI, gA_sR, gA_sQ, gA_sL, gA_sD, gQ_sI, gQ_sR, gQ_sA, gQ_sL, gQ_sD, gL_sI, gL_sR, gL_sA, gL_sQ, gL_sD]; assumption) | simp [kd_sI, kd_sR, kd_sA, kd_sQ, kd_sL, kd_sD, ln_sI, ln_sR, ln_sA, ln_sQ, ln_sL, ln_sD, gI_sR, gI_sA, gI_sQ, gI_sL, gI_sD, gR_sI, gR_sA, gR_sQ, gR_sL, gR_sD, gA_sI, gA_sR, gA_sQ, gA_sL, gA_sD, gQ_sI, gQ_sR, gQ_sA, gQ_sL, gQ_sD, gL_sI, gL_sR, gL_sA, gL_sQ, gL_sD, kd_nO, kd_nA, *]) (by first | rfl | assumption) (by first | rfl | assumption) ?_
  refine r_return dX17_init_13 rfl ?_
  exact hQ _ (h1.sI (fun _ => rfl)) gI_sIs
theorem s_itemXInit {a : Nat} {x : Int32} {r : Option Nat} (hd : 3 ≤ d) (hk : kd H a = 18) (hQ : ∀ H', Ks (fun b => b = a) H H' → gI H' 67 a = x → Qr none H') : AMet G d 0 0 yX20_init wX20_init H [vR (some a), vI x, vR r] Qr Qx := by
  refine AMet.of (M := mX20_init) (maxL := 3) (by first | rfl | decide +kernel) rfl (Nat.le_of_ble_eq_true rfl) ?_
  show AW mX20_init _ _ _ _ _ _ _ 0 [some (vR (some a)), some (vI x), some (vR r)] []
  refine r_aload_n (i := 0) dX20_init_0 rfl rfl ?_
  refine r_null dX20_init_1 ?_
  refine r_aload_n (i := 2) dX20_init_2 rfl rfl ?_
  refine r_iconst (v := nI 0) dX20_init_3 (by decide) ?_
  refine r_iconst (v := nI 0) dX20_init_4 (by decide) ?_
  refine r_callI (As := [_, _, _, _]) (mc' := 0) (ms' := 0) dX20_init_5 k_X20_1 rfl (by first | assumption | omega) (by first | assumption | omega) (by first | assumption | omega) (Nat.le_of_ble_eq_true rfl) ?_
  refine s_excInitX20 (by omega) hk (fun H' h1 h2 => ?_)
  have k1 : kd H' a = 18 := h1.kk hk (by decide)
  show AW mX20_init G d Qr Qx _ _ _ 8 _ _
  refine r_aload_n (i := 0) dX20_init_8 rfl rfl ?_
  refine r_iload_n (i := 1) dX20_init_9 rfl rfl ?_
  refine r_putI dX20_init_10 fG_X20_7 (fun _ => by first | rfl | contradiction) (by first | assumption | (simp only [kd_sI, kd_sR, kd_sA, kd_sQ, kd_sL, kd_sD, ln_sI, ln_sR, ln_sA, ln_sQ, ln_sL, ln_sD, gI_sR, gI_sA, gI_sQ, gI_sL, gI_sD, gR_sI, gR_sA, gR_sQ, gR_sL, gR_sD, gA_sI, gA_sR, gA_sQ, gA_sL, gA_sD, gQ_sI, gQ_sR, gQ_sA, gQ_sL, gQ_sD, gL_sI, gL_sR, gL_sA, gL_sQ, gL_sD]; assumption) | simp [kd_sI, kd_sR, kd_sA, kd_sQ, kd_sL, kd_sD, ln_sI, ln_sR, ln_sA, ln_sQ, ln_sL, ln_sD, gI_sR, gI_sA, gI_sQ, gI_sL, gI_sD, gR_sI, gR_sA, gR_sQ, gR_sL, gR_sD, gA_sI, gA_sR, gA_sQ, gA_sL, gA_sD, gQ_sI, gQ_sR, gQ_sA, gQ_sL, gQ_sD, gL_sI, gL_sR, gL_sA, gL_sQ, gL_sD, kd_nO, kd_nA, *]) (by first | rfl | assumption) (by first | rfl | assumption) ?_
  refine r_return dX20_init_13 rfl ?_
  exact hQ _ (h1.sI (fun _ => rfl)) gI_sIs
/-- a chain of numbers, from r on, of objects of which F holds -/
def ChO (H : AH) (F : Nat → Prop) : List Int32 → Option Nat → Prop
  | [], r => r = none
  | x :: l, r => ∃ a, r = some a ∧ F a ∧ (kd H a = 9 ∨ kd H a = 10) ∧ gI H 44 a = x ∧ ChO H F l (gR H 38 a)
theorem ChO.ks {H' : AH} {S F : Nat → Prop} {l : List Int32} {r : Option Nat} (h : ChO H F l r) (hk : Ks S H H') (hs : ∀ a, F a → kd H a = 9 ∨ kd H a = 10 → ¬ S a) : ChO H' F l r := by
  induction l generalizing r with
  | nil => exact h
  | cons x l ih =>
    obtain ⟨a, h1, h0, h2, h3, h4⟩ := h
    have e := hk.at (a := a) (by omega) (hs a h0 h2)
    exact ⟨a, h1, h0, by rw [at_kd e]; exact h2, by rw [at_gI e]; exact h3, by rw [at_gR e]; exact ih h4⟩
theorem ChO.mono {F F' : Nat → Prop} {l : List Int32} {r : Option Nat} (h : ChO H F l r) (hs : ∀ a, F a → F' a) : ChO H F' l r := by
  induction l generalizing r with
  | nil => exact h
  | cons x l ih =>
    obtain ⟨a, h1, h0, h2, h3, h4⟩ := h
    exact ⟨a, h1, hs a h0, h2, h3, ih h4⟩
theorem ChO.len {F F' : Nat → Prop} {l l' : List Int32} {r : Option Nat} (h : ChO H F l r) (k : ChO H F' l' r) : l = l' := by
  induction l generalizing r l' with
  | nil =>
    cases l' with
    | nil => rfl
    | cons y l' =>
      obtain ⟨a, h1, -⟩ := k
      have : r = none := h
      rw [this] at h1
      cases h1
  | cons x l ih =>
    cases l' with
    | nil =>
      obtain ⟨a, h1, -⟩ := h
      have : r = none := k
      rw [this] at h1
      cases h1
    | cons y l' =>
      obtain ⟨a, h1, -, -, h3, h4⟩ := h
      obtain ⟨b, g1, -, -, g3, g4⟩ := k
      rw [h1] at g1
      cases g1
      rw [ih h4 g4, ← h3, ← g3]
/-- a chain of the numbers of an array from a place on -/
theorem s_of {arr k n : Nat} (xs : Nat → Int32) (hk9 : k / 1000 = 1) (hk8 : k ≠ 9 ∧ k ≠ 10) : ∀ (j i : Nat) {d : Nat} {H : AH} {Qr : Option AV → AH → Prop} {Qx : String → Nat → AH → Prop}, i + j = n → n < 1000 → j + 4 ≤ d → kd H arr = k → ln H arr = n → (∀ x, x < n → gA H k arr x = xs x) → (∀ H' r, Ks (fun _ => False) H H' → ChO H' (fun a => kd H a = 0) ((List.range j).map fun x => xs (i + x)) r → (∀ a, r = some a → kd H' a = 9) → Qr (some (vR r)) H') → AMet G d j (7 * j) yX10_of wX10_of H [vI (nI i), vR (some arr)] Qr Qx := by
  intro j
  induction j with
  | zero =>
    intro i d H Qr Qx hi hn hd hk hl hx hQ
    refine AMet.of (M := mX10_of) (maxL := 2) (by first | rfl | decide +kernel) rfl (Nat.le_of_ble_eq_true rfl) ?_
    show AW mX10_of _ _ _ _ _ _ _ 0 [some (vI (nI i)), some (vR (some arr))] []
    refine r_iload_n (i := 0) dX10_of_0 rfl rfl ?_
    refine r_aload_n (i := 1) dX10_of_1 rfl rfl ?_
    refine r_alen dX10_of_2 (by first | (refine ⟨?_, ?_⟩ <;> simp [kd_sI, kd_sR, kd_sA, kd_sQ, kd_sL, kd_sD, ln_sI, ln_sR, ln_sA, ln_sQ, ln_sL, ln_sD, gI_sR, gI_sA, gI_sQ, gI_sL, gI_sD, gR_sI, gR_sA, gR_sQ, gR_sL, gR_sD, gA_sI, gA_sR, gA_sQ, gA_sL, gA_sD, gQ_sI, gQ_sR, gQ_sA, gQ_sL, gQ_sD, gL_sI, gL_sR, gL_sA, gL_sQ, gL_sD, *]; done) | omega) (by first | assumption | exact gI_sIs | exact gR_sRs | with_reducible rfl | (simp only [kd_sI, kd_sR, kd_sA, kd_sQ, kd_sL, kd_sD, ln_sI, ln_sR, ln_sA, ln_sQ, ln_sL, ln_sD, gI_sR, gI_sA, gI_sQ, gI_sL, gI_sD, gR_sI, gR_sA, gR_sQ, gR_sL, gR_sD, gA_sI, gA_sR, gA_sQ, gA_sL, gA_sD, gQ_sI, gQ_sR, gQ_sA, gQ_sL, gQ_sD, gL_sI, gL_sR, gL_sA, gL_sQ, gL_sD]; first | done | assumption | with_reducible rfl) | rfl) ?_
    refine r_icmp_ne (tgt := 10) dX10_of_3 (by decide) (fun h3 => ?_) (fun h3 => ?_)
    · exact absurd (by rw [show i = n by omega]) h3
    · refine r_null dX10_of_6 ?_
      refine r_goto (tgt := 27) dX10_of_7 (by decide) ?_
      refine r_areturn dX10_of_27 rfl (by first | exact Or.inl ⟨_, rfl⟩ | exact Or.inr ⟨_, rfl⟩) ?_
      exact hQ H none Ks.rf rfl (fun a h => by cases h)
  | succ j ih =>
    intro i d H Qr Qx hi hn hd hk hl hx hQ
    have hxi := hx i (by omega)
    refine AMet.of (M := mX10_of) (maxL := 2) (by first | rfl | decide +kernel) rfl (Nat.le_of_ble_eq_true rfl) ?_
    show AW mX10_of _ _ _ _ _ _ _ 0 [some (vI (nI i)), some (vR (some arr))] []
    refine r_iload_n (i := 0) dX10_of_0 rfl rfl ?_
    refine r_aload_n (i := 1) dX10_of_1 rfl rfl ?_
    refine r_alen dX10_of_2 (by first | (refine ⟨?_, ?_⟩ <;> simp [kd_sI, kd_sR, kd_sA, kd_sQ, kd_sL, kd_sD, ln_sI, ln_sR, ln_sA, ln_sQ, ln_sL, ln_sD, gI_sR, gI_sA, gI_sQ, gI_sL, gI_sD, gR_sI, gR_sA, gR_sQ, gR_sL, gR_sD, gA_sI, gA_sR, gA_sQ, gA_sL, gA_sD, gQ_sI, gQ_sR, gQ_sA, gQ_sL, gQ_sD, gL_sI, gL_sR, gL_sA, gL_sQ, gL_sD, *]; done) | omega) (by first | assumption | exact gI_sIs | exact gR_sRs | with_reducible rfl | (simp only [kd_sI, kd_sR, kd_sA, kd_sQ, kd_sL, kd_sD, ln_sI, ln_sR, ln_sA, ln_sQ, ln_sL, ln_sD, gI_sR, gI_sA, gI_sQ, gI_sL, gI_sD, gR_sI, gR_sA, gR_sQ, gR_sL, gR_sD, gA_sI, gA_sR, gA_sQ, gA_sL, gA_sD, gQ_sI, gQ_sR, gQ_sA, gQ_sL, gQ_sD, gL_sI, gL_sR, gL_sA, gL_sQ, gL_sD]; first | done | assumption | with_reducible rfl) | rfl) ?_
    refine r_icmp_ne (tgt := 10) dX10_of_3 (by decide) (fun h3 => ?_) (fun h3 => ?_)
    · refine r_new dX10_of_10 cT_X10 q1873 q1874 q127 (by decide +kernel) (by first | assumption | omega) (by first | assumption | omega) (fun q10 hq10 => ?_)
      have hne : ¬ arr = q10 := fun e => by rw [e, hq10] at hk; omega
      refine AW.name (fun H1 hH1 => ?_)
      have hK1 : Ks (fun _ => False) H H1 := by rw [hH1]; exact Ks.rf.nO hq10
      have e1 := hK1.at (a := arr) (by omega) (fun h => h)
      have k1 : kd H1 arr = k := by rw [at_kd e1]; exact hk
      have l1 : ln H1 arr = n := by rw [at_ln e1]; exact hl
      have x1 : ∀ x, x < n → gA H1 k arr x = xs x := fun x hx9 => by rw [at_gA e1]; exact hx x hx9
      have x1i := x1 i (by omega)
      have kq : kd H1 q10 = 9 := by rw [hH1, kd_nO, if_pos rfl]
      refine r_dup dX10_of_13 rfl ?_
      refine r_aload_n (i := 1) dX10_of_14 rfl rfl ?_
      refine r_iload_n (i := 0) dX10_of_15 rfl rfl ?_
      refine r_iald dX10_of_16 (by first | assumption | (simp only [kd_sI, kd_sR, kd_sA, kd_sQ, kd_sL, kd_sD, ln_sI, ln_sR, ln_sA, ln_sQ, ln_sL, ln_sD, gI_sR, gI_sA, gI_sQ, gI_sL, gI_sD, gR_sI, gR_sA, gR_sQ, gR_sL, gR_sD, gA_sI, gA_sR, gA_sQ, gA_sL, gA_sD, gQ_sI, gQ_sR, gQ_sA, gQ_sL, gQ_sD, gL_sI, gL_sR, gL_sA, gL_sQ, gL_sD]; assumption) | simp [kd_sI, kd_sR, kd_sA, kd_sQ, kd_sL, kd_sD, ln_sI, ln_sR, ln_sA, ln_sQ, ln_sL, ln_sD, gI_sR, gI_sA, gI_sQ, gI_sL, gI_sD, gR_sI, gR_sA, gR_sQ, gR_sL, gR_sD, gA_sI, gA_sR, gA_sQ, gA_sL, gA_sD, gQ_sI, gQ_sR, gQ_sA, gQ_sL, gQ_sD, gL_sI, gL_sR, gL_sA, gL_sQ, gL_sD, kd_nO, kd_nA, *]) (by first | decide | assumption) (by first | assumption | exact gI_sIs | exact gR_sRs | with_reducible rfl | (simp only [kd_sI, kd_sR, kd_sA, kd_sQ, kd_sL, kd_sD, ln_sI, ln_sR, ln_sA, ln_sQ, ln_sL, ln_sD, gI_sR, gI_sA, gI_sQ, gI_sL, gI_sD, gR_sI, gR_sA, gR_sQ, gR_sL, gR_sD, gA_sI, gA_sR, gA_sQ, gA_sL, gA_sD, gQ_sI, gQ_sR, gQ_sA, gQ_sL, gQ_sD, gL_sI, gL_sR, gL_sA, gL_sQ, gL_sD]; first | done | assumption | with_reducible rfl) | rfl) (by first | with_reducible rfl | assumption | (simp only [nI_add, pk_mul, nI_1]; with_reducible rfl)) (by first | assumption | omega) (by first | assumption | omega) (by first | assumption | exact gI_sIs | exact gR_sRs | with_reducible rfl | (simp only [kd_sI, kd_sR, kd_sA, kd_sQ, kd_sL, kd_sD, ln_sI, ln_sR, ln_sA, ln_sQ, ln_sL, ln_sD, gI_sR, gI_sA, gI_sQ, gI_sL, gI_sD, gR_sI, gR_sA, gR_sQ, gR_sL, gR_sD, gA_sI, gA_sR, gA_sQ, gA_sL, gA_sD, gQ_sI, gQ_sR, gQ_sA, gQ_sL, gQ_sD, gL_sI, gL_sR, gL_sA, gL_sQ, gL_sD]; first | done | assumption | with_reducible rfl) | rfl) ?_
      refine r_iload_n (i := 0) dX10_of_17 rfl rfl ?_
      refine r_iconst (v := nI 1) dX10_of_18 (by decide) ?_
      refine r_iadd dX10_of_19 ?_
      try simp only [nI_add]
      refine r_aload_n (i := 1) dX10_of_20 rfl rfl ?_
      refine r_callS (As := [_, _]) (mc' := j) (ms' := (7 * j)) dX10_of_21 k_X10_13 rfl (by first | assumption | omega) (by first | assumption | omega) (by first | assumption | omega) (Nat.le_of_ble_eq_true rfl) ?_
      refine ih (i + 1) (by omega) hn (by omega) k1 l1 x1 (fun H2 r hK2 hC2 _ => ?_)
      have kq2 : kd H2 q10 = 9 := hK2.kk kq (by decide)
      show AW mX10_of G d Qr Qx _ _ H2 24 _ _
      refine r_callI (As := [_, _]) (mc' := 0) (ms' := 0) dX10_of_24 k_X10_17 rfl (by first | assumption | omega) (by first | assumption | omega) (by first | assumption | omega) (Nat.le_of_ble_eq_true rfl) ?_
      refine s_refInitX10 (by omega) kq2 (fun H3 hK3 h1 h2 => ?_)
      show AW mX10_of G d Qr Qx _ _ H3 27 _ _
      refine r_areturn dX10_of_27 rfl (by first | exact Or.inl ⟨_, rfl⟩ | exact Or.inr ⟨_, rfl⟩) ?_
      have hK : Ks (fun _ => False) H H3 := ((hK1.tr hK2).mono (S' := fun b => b = q10) (fun _ _ f => f.elim)).tr hK3 |>.mono (fun b hb e => absurd hq10 (by rw [← e]; exact hb))
      refine hQ H3 (some q10) hK ?_ (fun a h => by cases h; exact hK3.kk kq2 (by decide))
      rw [List.range_succ_eq_map, List.map_cons]
      refine ⟨q10, rfl, hq10, Or.inl (hK3.kk kq2 (by decide)), by rw [h2]; rfl, ?_⟩
      have hC3 := (hC2.ks hK3 (fun a h9 _ e => by rw [e, kq] at h9; cases h9)).mono (F' := fun a => kd H a = 0) (fun a h9 => hK1.fr h9)
      rw [h1, List.map_map]
      have e9 : (fun x => xs (i + x)) ∘ Nat.succ = fun x => xs (i + 1 + x) := by
        funext x
        show xs (i + (x + 1)) = xs (i + 1 + x)
        rw [show i + (x + 1) = i + 1 + x by omega]
      rw [e9]
      exact hC3
    · exact absurd h3 (nI_ne (by omega) (by omega) (by omega))
end Exc
