set_option maxRecDepth 100000
/-! ARRAY LISTS: making, copying, inserting -/
section ArrL3
variable {G : Gl} {d : Nat} {Qr : Option AV → AH → Prop} {Qx : String → Nat → AH → Prop} {H : AH} {L n e : Nat} {xs : Nat → Nat}
theorem s_alInit (hd : 2 ≤ d) (hk : kd H L = 20) (hQ : Qr none (sI H 95 L (nI 0))) : AMet G d 0 0 yJ1_init wJ1_init H [vR (some L)] Qr Qx := by
  refine AMet.of (M := mJ1_init) (maxL := 1) (by first | rfl | decide +kernel) rfl (Nat.le_of_ble_eq_true rfl) ?_
  show AW mJ1_init _ _ _ _ _ _ _ 0 [some (vR (some L))] []
  refine r_aload_n (i := 0) dJ1_init_0 rfl rfl ?_
  refine r_callI (As := []) (mc' := 0) (ms' := 0) dJ1_init_1 k_J1_1 rfl (by first | assumption | omega) (by first | assumption | omega) (by first | assumption | omega) (Nat.le_of_ble_eq_true rfl) ?_
  refine s_acInit (by omega) ?_
  show AW mJ1_init G d Qr Qx _ _ _ 4 _ _
  refine r_aload_n (i := 0) dJ1_init_4 rfl rfl ?_
  refine r_iconst (v := nI 0) dJ1_init_5 (by decide) ?_
  refine r_putI dJ1_init_6 fG_J1_7_J2 (fun _ => by first | rfl | contradiction) (by first | assumption | (simp only [kd_sI, kd_sR, kd_sA, kd_sQ, kd_sL, kd_sD, ln_sI, ln_sR, ln_sA, ln_sQ, ln_sL, ln_sD, gI_sR, gI_sA, gI_sQ, gI_sL, gI_sD, gR_sI, gR_sA, gR_sQ, gR_sL, gR_sD, gA_sI, gA_sR, gA_sQ, gA_sL, gA_sD, gQ_sI, gQ_sR, gQ_sA, gQ_sL, gQ_sD, gL_sI, gL_sR, gL_sA, gL_sQ, gL_sD]; assumption) | simp [kd_sI, kd_sR, kd_sA, kd_sQ, kd_sL, kd_sD, ln_sI, ln_sR, ln_sA, ln_sQ, ln_sL, ln_sD, gI_sR, gI_sA, gI_sQ, gI_sL, gI_sD, gR_sI, gR_sA, gR_sQ, gR_sL, gR_sD, gA_sI, gA_sR, gA_sQ, gA_sL, gA_sD, gQ_sI, gQ_sR, gQ_sA, gQ_sL, gQ_sD, gL_sI, gL_sR, gL_sA, gL_sQ, gL_sD, kd_nO, kd_nA, *]) (by first | rfl | assumption) (by first | rfl | assumption) ?_
  refine r_return dJ1_init_9 rfl ?_
  exact hQ
theorem s_lsInit (hd : 3 ≤ d) (hk : kd H L = 20) (hz : gI H 97 L = 0) (hQ : ∀ H', Ks (fun a => a = L) H H' → LsO G H' L 0 xs (gSt G 1) → Qr none H') : AMet G d 0 0 yJ2_init wJ2_init H [vR (some L)] Qr Qx := by
  refine AMet.of (M := mJ2_init) (maxL := 1) (by first | rfl | decide +kernel) rfl (Nat.le_of_ble_eq_true rfl) ?_
  show AW mJ2_init _ _ _ _ _ _ _ 0 [some (vR (some L))] []
  refine r_aload_n (i := 0) dJ2_init_0 rfl rfl ?_
  refine r_callI (As := []) (mc' := 0) (ms' := 0) dJ2_init_1 k_J2_1 rfl (by first | assumption | omega) (by first | assumption | omega) (by first | assumption | omega) (Nat.le_of_ble_eq_true rfl) ?_
  refine s_alInit (by omega) hk ?_
  show AW mJ2_init G d Qr Qx _ _ _ 4 _ _
  refine r_aload_n (i := 0) dJ2_init_4 rfl rfl ?_
  refine r_gs_empty dJ2_init_5 (Or.inl q167) ?_
  refine r_putR dJ2_init_8 fG_J2_9 (fun _ => by first | rfl | contradiction) (by first | assumption | (simp only [kd_sI, kd_sR, kd_sA, kd_sQ, kd_sL, kd_sD, ln_sI, ln_sR, ln_sA, ln_sQ, ln_sL, ln_sD, gI_sR, gI_sA, gI_sQ, gI_sL, gI_sD, gR_sI, gR_sA, gR_sQ, gR_sL, gR_sD, gA_sI, gA_sR, gA_sQ, gA_sL, gA_sD, gQ_sI, gQ_sR, gQ_sA, gQ_sL, gQ_sD, gL_sI, gL_sR, gL_sA, gL_sQ, gL_sD]; assumption) | simp [kd_sI, kd_sR, kd_sA, kd_sQ, kd_sL, kd_sD, ln_sI, ln_sR, ln_sA, ln_sQ, ln_sL, ln_sD, gI_sR, gI_sA, gI_sQ, gI_sL, gI_sD, gR_sI, gR_sA, gR_sQ, gR_sL, gR_sD, gA_sI, gA_sR, gA_sQ, gA_sL, gA_sD, gQ_sI, gQ_sR, gQ_sA, gQ_sL, gQ_sD, gL_sI, gL_sR, gL_sA, gL_sQ, gL_sD, kd_nO, kd_nA, *]) (by first | exact Or.inl ⟨_, rfl⟩ | exact Or.inr ⟨_, rfl⟩) ?_
  refine r_return dJ2_init_11 rfl ?_
  refine hQ _ (((Ks.rf (S := fun a => a = L)).sI (fun _ => rfl)).sR (fun _ => rfl)) ⟨hk, ?_, gR_sRs, fun i hi => absurd hi (by omega), Or.inl ⟨rfl, rfl⟩⟩
  show gI (sI H 95 L (nI 0)) 97 L = _
  rw [gI_sIn (by decide)]
  exact hz
/-- the objects as an array -/
theorem s_toArray (hd : 4 ≤ d) (h : LsO G H L n xs e) (hQ : ∀ H' q, kd H q = 0 → Ks (fun _ => False) H H' → kd H' q = 4096 → ln H' q = n → (∀ i, i < n → gQ H' 4096 q i = some (xs i)) → Qr (some (vR (some q))) H') : AMet G d 1 n yJ2_toArray wJ2_toArray H [vR (some L)] Qr Qx := by
  obtain ⟨a1, a2, a3, a4, a5⟩ := h
  rcases a5 with ⟨rfl, rfl⟩ | ⟨b1, b2, b3, b4, b5⟩
  · refine AMet.of (M := mJ2_toArray) (maxL := 1) (by first | rfl | decide +kernel) rfl (Nat.le_of_ble_eq_true rfl) ?_
    show AW mJ2_toArray _ _ _ _ _ _ _ 0 [some (vR (some L))] []
    refine r_aload_n (i := 0) dJ2_toArray_0 rfl rfl ?_
    refine r_getR dJ2_toArray_1 fR_J2_9 (by first | assumption | (simp only [kd_sI, kd_sR, kd_sA, kd_sQ, kd_sL, kd_sD, ln_sI, ln_sR, ln_sA, ln_sQ, ln_sL, ln_sD, gI_sR, gI_sA, gI_sQ, gI_sL, gI_sD, gR_sI, gR_sA, gR_sQ, gR_sL, gR_sD, gA_sI, gA_sR, gA_sQ, gA_sL, gA_sD, gQ_sI, gQ_sR, gQ_sA, gQ_sL, gQ_sD, gL_sI, gL_sR, gL_sA, gL_sQ, gL_sD]; assumption) | simp [kd_sI, kd_sR, kd_sA, kd_sQ, kd_sL, kd_sD, ln_sI, ln_sR, ln_sA, ln_sQ, ln_sL, ln_sD, gI_sR, gI_sA, gI_sQ, gI_sL, gI_sD, gR_sI, gR_sA, gR_sQ, gR_sL, gR_sD, gA_sI, gA_sR, gA_sQ, gA_sL, gA_sD, gQ_sI, gQ_sR, gQ_sA, gQ_sL, gQ_sD, gL_sI, gL_sR, gL_sA, gL_sQ, gL_sD, kd_nO, kd_nA, *]) (by first | assumption | exact gI_sIs | exact gR_sRs | with_reducible rfl | (simp only [kd_sI, kd_sR, kd_sA, kd_sQ, kd_sL, kd_sD, ln_sI, ln_sR, ln_sA, ln_sQ, ln_sL, ln_sD, gI_sR, gI_sA, gI_sQ, gI_sL, gI_sD, gR_sI, gR_sA, gR_sQ, gR_sL, gR_sD, gA_sI, gA_sR, gA_sQ, gA_sL, gA_sD, gQ_sI, gQ_sR, gQ_sA, gQ_sL, gQ_sD, gL_sI, gL_sR, gL_sA, gL_sQ, gL_sD]; first | done | assumption | with_reducible rfl) | rfl) ?_
    refine r_aload_n (i := 0) dJ2_toArray_4 rfl rfl ?_
    refine r_getI dJ2_toArray_5 fR_J2_48 (by first | assumption | (simp only [kd_sI, kd_sR, kd_sA, kd_sQ, kd_sL, kd_sD, ln_sI, ln_sR, ln_sA, ln_sQ, ln_sL, ln_sD, gI_sR, gI_sA, gI_sQ, gI_sL, gI_sD, gR_sI, gR_sA, gR_sQ, gR_sL, gR_sD, gA_sI, gA_sR, gA_sQ, gA_sL, gA_sD, gQ_sI, gQ_sR, gQ_sA, gQ_sL, gQ_sD, gL_sI, gL_sR, gL_sA, gL_sQ, gL_sD]; assumption) | simp [kd_sI, kd_sR, kd_sA, kd_sQ, kd_sL, kd_sD, ln_sI, ln_sR, ln_sA, ln_sQ, ln_sL, ln_sD, gI_sR, gI_sA, gI_sQ, gI_sL, gI_sD, gR_sI, gR_sA, gR_sQ, gR_sL, gR_sD, gA_sI, gA_sR, gA_sQ, gA_sL, gA_sD, gQ_sI, gQ_sR, gQ_sA, gQ_sL, gQ_sD, gL_sI, gL_sR, gL_sA, gL_sQ, gL_sD, kd_nO, kd_nA, *]) (by first | assumption | exact gI_sIs | exact gR_sRs | with_reducible rfl | (simp only [kd_sI, kd_sR, kd_sA, kd_sQ, kd_sL, kd_sD, ln_sI, ln_sR, ln_sA, ln_sQ, ln_sL, ln_sD, gI_sR, gI_sA, gI_sQ, gI_sL, gI_sD, gR_sI, gR_sA, gR_sQ, gR_sL, gR_sD, gA_sI, gA_sR, gA_sQ, gA_sL, gA_sD, gQ_sI, gQ_sR, gQ_sA, gQ_sL, gQ_sD, gL_sI, gL_sR, gL_sA, gL_sQ, gL_sD]; first | done | assumption | with_reducible rfl) | rfl) ?_
    refine r_callS (As := [_, _]) (mc' := 1) (ms' := 0) dJ2_toArray_8 k_J2_66 rfl (by first | assumption | omega) (by first | assumption | omega) (by first | assumption | omega) (Nat.le_of_ble_eq_true rfl) ?_
    refine s_copyOf2E (by omega) (fun q hq => ?_)
    show AW mJ2_toArray G d Qr Qx _ _ _ 11 _ _
    refine r_areturn dJ2_toArray_11 rfl (by first | exact Or.inl ⟨_, rfl⟩ | exact Or.inr ⟨_, rfl⟩) ?_
    exact hQ _ q hq (Ks.rf.nA hq) (by rw [kd_nA, if_pos rfl]) (by rw [ln_nA, if_pos rfl]) (fun i hi => absurd hi (by omega))
  · obtain ⟨c, hc⟩ : ∃ c, ln H e = c := ⟨_, rfl⟩
    rw [hc] at b2 b3 b4
    refine AMet.of (M := mJ2_toArray) (maxL := 1) (by first | rfl | decide +kernel) rfl (Nat.le_of_ble_eq_true rfl) ?_
    show AW mJ2_toArray _ _ _ _ _ _ _ 0 [some (vR (some L))] []
    refine r_aload_n (i := 0) dJ2_toArray_0 rfl rfl ?_
    refine r_getR dJ2_toArray_1 fR_J2_9 (by first | assumption | (simp only [kd_sI, kd_sR, kd_sA, kd_sQ, kd_sL, kd_sD, ln_sI, ln_sR, ln_sA, ln_sQ, ln_sL, ln_sD, gI_sR, gI_sA, gI_sQ, gI_sL, gI_sD, gR_sI, gR_sA, gR_sQ, gR_sL, gR_sD, gA_sI, gA_sR, gA_sQ, gA_sL, gA_sD, gQ_sI, gQ_sR, gQ_sA, gQ_sL, gQ_sD, gL_sI, gL_sR, gL_sA, gL_sQ, gL_sD]; assumption) | simp [kd_sI, kd_sR, kd_sA, kd_sQ, kd_sL, kd_sD, ln_sI, ln_sR, ln_sA, ln_sQ, ln_sL, ln_sD, gI_sR, gI_sA, gI_sQ, gI_sL, gI_sD, gR_sI, gR_sA, gR_sQ, gR_sL, gR_sD, gA_sI, gA_sR, gA_sQ, gA_sL, gA_sD, gQ_sI, gQ_sR, gQ_sA, gQ_sL, gQ_sD, gL_sI, gL_sR, gL_sA, gL_sQ, gL_sD, kd_nO, kd_nA, *]) (by first | assumption | exact gI_sIs | exact gR_sRs | with_reducible rfl | (simp only [kd_sI, kd_sR, kd_sA, kd_sQ, kd_sL, kd_sD, ln_sI, ln_sR, ln_sA, ln_sQ, ln_sL, ln_sD, gI_sR, gI_sA, gI_sQ, gI_sL, gI_sD, gR_sI, gR_sA, gR_sQ, gR_sL, gR_sD, gA_sI, gA_sR, gA_sQ, gA_sL, gA_sD, gQ_sI, gQ_sR, gQ_sA, gQ_sL, gQ_sD, gL_sI, gL_sR, gL_sA, gL_sQ, gL_sD]; first | done | assumption | with_reducible rfl) | rfl) ?_
    refine r_aload_n (i := 0) dJ2_toArray_4 rfl rfl ?_
    refine r_getI dJ2_toArray_5 fR_J2_48 (by first | assumption | (simp only [kd_sI, kd_sR, kd_sA, kd_sQ, kd_sL, kd_sD, ln_sI, ln_sR, ln_sA, ln_sQ, ln_sL, ln_sD, gI_sR, gI_sA, gI_sQ, gI_sL, gI_sD, gR_sI, gR_sA, gR_sQ, gR_sL, gR_sD, gA_sI, gA_sR, gA_sQ, gA_sL, gA_sD, gQ_sI, gQ_sR, gQ_sA, gQ_sL, gQ_sD, gL_sI, gL_sR, gL_sA, gL_sQ, gL_sD]; assumption) | simp [kd_sI, kd_sR, kd_sA, kd_sQ, kd_sL, kd_sD, ln_sI, ln_sR, ln_sA, ln_sQ, ln_sL, ln_sD, gI_sR, gI_sA, gI_sQ, gI_sL, gI_sD, gR_sI, gR_sA, gR_sQ, gR_sL, gR_sD, gA_sI, gA_sR, gA_sQ, gA_sL, gA_sD, gQ_sI, gQ_sR, gQ_sA, gQ_sL, gQ_sD, gL_sI, gL_sR, gL_sA, gL_sQ, gL_sD, kd_nO, kd_nA, *]) (by first | assumption | exact gI_sIs | exact gR_sRs | with_reducible rfl | (simp only [kd_sI, kd_sR, kd_sA, kd_sQ, kd_sL, kd_sD, ln_sI, ln_sR, ln_sA, ln_sQ, ln_sL, ln_sD, gI_sR, gI_sA, gI_sQ, gI_sL, gI_sD, gR_sI, gR_sA, gR_sQ, gR_sL, gR_sD, gA_sI, gA_sR, gA_sQ, gA_sL, gA_sD, gQ_sI, gQ_sR, gQ_sA, gQ_sL, gQ_sD, gL_sI, gL_sR, gL_sA, gL_sQ, gL_sD]; first | done | assumption | with_reducible rfl) | rfl) ?_
    refine r_callS (As := [_, _]) (mc' := 1) (ms' := n) dJ2_toArray_8 k_J2_66 rfl (by first | assumption | omega) (by first | assumption | omega) (by first | assumption | omega) (Nat.le_of_ble_eq_true rfl) ?_
    refine s_copyOf2 (k := n) (by omega) b1 hc (by omega) (by omega) ?_ (fun i hi y hy => ?_) (fun q hq => ?_)
    · split <;> omega
    · rw [b5 i hi] at hy
      cases hy
      exact a4 i hi
    show AW mJ2_toArray G d Qr Qx _ _ _ 11 _ _
    refine r_areturn dJ2_toArray_11 rfl (by first | exact Or.inl ⟨_, rfl⟩ | exact Or.inr ⟨_, rfl⟩) ?_
    refine hQ _ q hq ((Ks.rf.nA hq).sQ (fun h => absurd hq h)) (by rw [kd_sQ, kd_nA, if_pos rfl]) (by rw [ln_sQ, ln_nA, if_pos rfl]) (fun i hi => ?_)
    rw [gQ_sQs]
    have e8 := va_cpy_in (gQ H 4096 e) (fun _ => none) 0 0 n i hi
    rw [Nat.zero_add] at e8
    rw [e8]
    exact b5 i hi
/-- all of another list, into an empty one -/
theorem s_addAll {L2 n2 e2 : Nat} {ys : Nat → Nat} {zs : Nat → Nat} (hd : 5 ≤ d) (h : LsO G H L 0 zs (gSt G 1)) (h2 : LsO G H L2 n2 ys e2) (hn : n2 ≤ 10) (hQ : ∀ H' e' b, Ks (fun a => a = L) H H' → (e' = gSt G 1 ∨ kd H e' = 0) → LsO G H' L n2 ys e' → Qr (some (vI b)) H') : AMet G d 2 (n2 + 10) yJ2_addAll wJ2_addAll H [vR (some L), vR (some L2)] Qr Qx := by
  have h20 := h2
  obtain ⟨a1, a2, a3, a4, a5⟩ := h
  obtain ⟨b1, b2, b3, b4, b5⟩ := h2
  refine AMet.of (M := mJ2_addAll) (maxL := 6) (by first | rfl | decide +kernel) rfl (Nat.le_of_ble_eq_true rfl) ?_
  show AW mJ2_addAll _ _ _ _ _ _ _ 0 [some (vR (some L)), some (vR (some L2)), none, none, none, none] []
  refine r_aload_n (i := 1) dJ2_addAll_0 rfl rfl ?_
  refine r_callF (As := []) (mc' := 1) (ms' := n2) dJ2_addAll_1 k_J2_42_J2 rfl (by first | assumption | (simp only [kd_sI, kd_sR, kd_sA, kd_sQ, kd_sL, kd_sD, ln_sI, ln_sR, ln_sA, ln_sQ, ln_sL, ln_sD, gI_sR, gI_sA, gI_sQ, gI_sL, gI_sD, gR_sI, gR_sA, gR_sQ, gR_sL, gR_sD, gA_sI, gA_sR, gA_sQ, gA_sL, gA_sD, gQ_sI, gQ_sR, gQ_sA, gQ_sL, gQ_sD, gL_sI, gL_sR, gL_sA, gL_sQ, gL_sD]; assumption) | simp [kd_sI, kd_sR, kd_sA, kd_sQ, kd_sL, kd_sD, ln_sI, ln_sR, ln_sA, ln_sQ, ln_sL, ln_sD, gI_sR, gI_sA, gI_sQ, gI_sL, gI_sD, gR_sI, gR_sA, gR_sQ, gR_sL, gR_sD, gA_sI, gA_sR, gA_sQ, gA_sL, gA_sD, gQ_sI, gQ_sR, gQ_sA, gQ_sL, gQ_sD, gL_sI, gL_sR, gL_sA, gL_sQ, gL_sD, kd_nO, kd_nA, *]) (T := TJ2) (N := 3) rfl (by first | assumption | omega) (by first | assumption | omega) (by first | assumption | omega) (Nat.le_of_ble_eq_true rfl) ?_
  refine s_toArray (by omega) h20 (fun H1 q hq hK k1 l1 g1 => ?_)
  have hqL : L ≠ q := fun h => by rw [h, hq] at a1; cases a1
  have e0 := hK.at (a := L) (by rw [a1]; decide) (fun h => h)
  have a1' : kd H1 L = 20 := by rw [at_kd e0]; exact a1
  have a2' : gI H1 97 L = nI 0 := by rw [at_gI e0]; exact a2
  have a3' : gR H1 96 L = some (gSt G 1) := by rw [at_gR e0]; exact a3
  obtain ⟨mc, hmc⟩ : ∃ mc, gI H1 95 L = mc := ⟨_, rfl⟩
  show AW mJ2_addAll G d Qr Qx _ _ _ 6 _ _
  refine r_astore_n (i := 2) dJ2_addAll_6 rfl (Nat.le_of_ble_eq_true rfl) (by simp only [lset]; rfl) ?_
  refine r_aload_n (i := 0) dJ2_addAll_7 rfl rfl ?_
  refine r_dup dJ2_addAll_8 rfl ?_
  refine r_getI dJ2_addAll_9 fR_J2_63 (by first | assumption | (simp only [kd_sI, kd_sR, kd_sA, kd_sQ, kd_sL, kd_sD, ln_sI, ln_sR, ln_sA, ln_sQ, ln_sL, ln_sD, gI_sR, gI_sA, gI_sQ, gI_sL, gI_sD, gR_sI, gR_sA, gR_sQ, gR_sL, gR_sD, gA_sI, gA_sR, gA_sQ, gA_sL, gA_sD, gQ_sI, gQ_sR, gQ_sA, gQ_sL, gQ_sD, gL_sI, gL_sR, gL_sA, gL_sQ, gL_sD]; assumption) | simp [kd_sI, kd_sR, kd_sA, kd_sQ, kd_sL, kd_sD, ln_sI, ln_sR, ln_sA, ln_sQ, ln_sL, ln_sD, gI_sR, gI_sA, gI_sQ, gI_sL, gI_sD, gR_sI, gR_sA, gR_sQ, gR_sL, gR_sD, gA_sI, gA_sR, gA_sQ, gA_sL, gA_sD, gQ_sI, gQ_sR, gQ_sA, gQ_sL, gQ_sD, gL_sI, gL_sR, gL_sA, gL_sQ, gL_sD, kd_nO, kd_nA, *]) (by first | assumption | exact gI_sIs | exact gR_sRs | with_reducible rfl | (simp only [kd_sI, kd_sR, kd_sA, kd_sQ, kd_sL, kd_sD, ln_sI, ln_sR, ln_sA, ln_sQ, ln_sL, ln_sD, gI_sR, gI_sA, gI_sQ, gI_sL, gI_sD, gR_sI, gR_sA, gR_sQ, gR_sL, gR_sD, gA_sI, gA_sR, gA_sQ, gA_sL, gA_sD, gQ_sI, gQ_sR, gQ_sA, gQ_sL, gQ_sD, gL_sI, gL_sR, gL_sA, gL_sQ, gL_sD]; first | done | assumption | with_reducible rfl) | rfl) ?_
  refine r_iconst (v := nI 1) dJ2_addAll_12 (by decide) ?_
  refine r_iadd dJ2_addAll_13 ?_
  try simp only [nI_add]
  refine r_putI dJ2_addAll_14 fG_J2_63 (fun _ => by first | rfl | contradiction) (by first | assumption | (simp only [kd_sI, kd_sR, kd_sA, kd_sQ, kd_sL, kd_sD, ln_sI, ln_sR, ln_sA, ln_sQ, ln_sL, ln_sD, gI_sR, gI_sA, gI_sQ, gI_sL, gI_sD, gR_sI, gR_sA, gR_sQ, gR_sL, gR_sD, gA_sI, gA_sR, gA_sQ, gA_sL, gA_sD, gQ_sI, gQ_sR, gQ_sA, gQ_sL, gQ_sD, gL_sI, gL_sR, gL_sA, gL_sQ, gL_sD]; assumption) | simp [kd_sI, kd_sR, kd_sA, kd_sQ, kd_sL, kd_sD, ln_sI, ln_sR, ln_sA, ln_sQ, ln_sL, ln_sD, gI_sR, gI_sA, gI_sQ, gI_sL, gI_sD, gR_sI, gR_sA, gR_sQ, gR_sL, gR_sD, gA_sI, gA_sR, gA_sQ, gA_sL, gA_sD, gQ_sI, gQ_sR, gQ_sA, gQ_sL, gQ_sD, gL_sI, gL_sR, gL_sA, gL_sQ, gL_sD, kd_nO, kd_nA, *]) (by first | rfl | assumption) (by first | rfl | assumption) ?_
  refine r_aload_n (i := 2) dJ2_addAll_17 rfl rfl ?_
  refine r_alen dJ2_addAll_18 (by first | (refine ⟨?_, ?_⟩ <;> simp [kd_sI, kd_sR, kd_sA, kd_sQ, kd_sL, kd_sD, ln_sI, ln_sR, ln_sA, ln_sQ, ln_sL, ln_sD, gI_sR, gI_sA, gI_sQ, gI_sL, gI_sD, gR_sI, gR_sA, gR_sQ, gR_sL, gR_sD, gA_sI, gA_sR, gA_sQ, gA_sL, gA_sD, gQ_sI, gQ_sR, gQ_sA, gQ_sL, gQ_sD, gL_sI, gL_sR, gL_sA, gL_sQ, gL_sD, *]; done) | omega) (by first | assumption | exact gI_sIs | exact gR_sRs | with_reducible rfl | (simp only [kd_sI, kd_sR, kd_sA, kd_sQ, kd_sL, kd_sD, ln_sI, ln_sR, ln_sA, ln_sQ, ln_sL, ln_sD, gI_sR, gI_sA, gI_sQ, gI_sL, gI_sD, gR_sI, gR_sA, gR_sQ, gR_sL, gR_sD, gA_sI, gA_sR, gA_sQ, gA_sL, gA_sD, gQ_sI, gQ_sR, gQ_sA, gQ_sL, gQ_sD, gL_sI, gL_sR, gL_sA, gL_sQ, gL_sD]; first | done | assumption | with_reducible rfl) | rfl) ?_
  refine r_istore_n (i := 3) dJ2_addAll_19 rfl (Nat.le_of_ble_eq_true rfl) (by simp only [lset]; rfl) ?_
  refine r_iload_n (i := 3) dJ2_addAll_20 rfl rfl ?_
  refine r_if_ne (tgt := 26) dJ2_addAll_21 (by decide) (fun h21 => ?_) (fun h21 => ?_)
  · refine r_iload_n (i := 3) dJ2_addAll_26 rfl rfl ?_
    refine r_aload_n (i := 0) dJ2_addAll_27 rfl rfl ?_
    refine r_getR dJ2_addAll_28 fR_J2_9 (by first | assumption | (simp only [kd_sI, kd_sR, kd_sA, kd_sQ, kd_sL, kd_sD, ln_sI, ln_sR, ln_sA, ln_sQ, ln_sL, ln_sD, gI_sR, gI_sA, gI_sQ, gI_sL, gI_sD, gR_sI, gR_sA, gR_sQ, gR_sL, gR_sD, gA_sI, gA_sR, gA_sQ, gA_sL, gA_sD, gQ_sI, gQ_sR, gQ_sA, gQ_sL, gQ_sD, gL_sI, gL_sR, gL_sA, gL_sQ, gL_sD]; assumption) | simp [kd_sI, kd_sR, kd_sA, kd_sQ, kd_sL, kd_sD, ln_sI, ln_sR, ln_sA, ln_sQ, ln_sL, ln_sD, gI_sR, gI_sA, gI_sQ, gI_sL, gI_sD, gR_sI, gR_sA, gR_sQ, gR_sL, gR_sD, gA_sI, gA_sR, gA_sQ, gA_sL, gA_sD, gQ_sI, gQ_sR, gQ_sA, gQ_sL, gQ_sD, gL_sI, gL_sR, gL_sA, gL_sQ, gL_sD, kd_nO, kd_nA, *]) (by first | assumption | exact gI_sIs | exact gR_sRs | with_reducible rfl | (simp only [kd_sI, kd_sR, kd_sA, kd_sQ, kd_sL, kd_sD, ln_sI, ln_sR, ln_sA, ln_sQ, ln_sL, ln_sD, gI_sR, gI_sA, gI_sQ, gI_sL, gI_sD, gR_sI, gR_sA, gR_sQ, gR_sL, gR_sD, gA_sI, gA_sR, gA_sQ, gA_sL, gA_sD, gQ_sI, gQ_sR, gQ_sA, gQ_sL, gQ_sD, gL_sI, gL_sR, gL_sA, gL_sQ, gL_sD]; first | done | assumption | with_reducible rfl) | rfl) ?_
    refine AW.name (fun H2 hH2 => ?_)
    have hK2 : Ks (fun a => a = L) H H2 := by
      rw [hH2]
      exact (hK.mono (fun _ _ f => f.elim)).sI (fun _ => rfl)
    have c1 : kd H2 L = 20 := by rw [hH2]; exact a1'
    have c2 : gI H2 97 L = nI 0 := by rw [hH2, gI_sIn (by decide)]; exact a2'
    have c3 : gR H2 96 L = some (gSt G 1) := by rw [hH2]; exact a3'
    have c4 : kd H2 q = 4096 := by rw [hH2]; exact k1
    have c5 : ln H2 q = n2 := by rw [hH2]; exact l1
    have c6 : ∀ i, i < n2 → gQ H2 4096 q i = some (ys i) := by rw [hH2]; exact g1
    have hpos : 0 < n2 := Classical.byContradiction fun w => h21 (by rw [show n2 = 0 by omega]; rfl)
    refine r_dup dJ2_addAll_31 rfl ?_
    refine r_astore dJ2_addAll_32 (Nat.le_of_ble_eq_true rfl) (by simp only [lset]; rfl) ?_
    refine r_alenE dJ2_addAll_34 ?_
    refine r_aload_n (i := 0) dJ2_addAll_35 rfl rfl ?_
    refine r_getI dJ2_addAll_36 fR_J2_48 (by first | assumption | (simp only [kd_sI, kd_sR, kd_sA, kd_sQ, kd_sL, kd_sD, ln_sI, ln_sR, ln_sA, ln_sQ, ln_sL, ln_sD, gI_sR, gI_sA, gI_sQ, gI_sL, gI_sD, gR_sI, gR_sA, gR_sQ, gR_sL, gR_sD, gA_sI, gA_sR, gA_sQ, gA_sL, gA_sD, gQ_sI, gQ_sR, gQ_sA, gQ_sL, gQ_sD, gL_sI, gL_sR, gL_sA, gL_sQ, gL_sD]; assumption) | simp [kd_sI, kd_sR, kd_sA, kd_sQ, kd_sL, kd_sD, ln_sI, ln_sR, ln_sA, ln_sQ, ln_sL, ln_sD, gI_sR, gI_sA, gI_sQ, gI_sL, gI_sD, gR_sI, gR_sA, gR_sQ, gR_sL, gR_sD, gA_sI, gA_sR, gA_sQ, gA_sL, gA_sD, gQ_sI, gQ_sR, gQ_sA, gQ_sL, gQ_sD, gL_sI, gL_sR, gL_sA, gL_sQ, gL_sD, kd_nO, kd_nA, *]) (by first | assumption | exact gI_sIs | exact gR_sRs | with_reducible rfl | (simp only [kd_sI, kd_sR, kd_sA, kd_sQ, kd_sL, kd_sD, ln_sI, ln_sR, ln_sA, ln_sQ, ln_sL, ln_sD, gI_sR, gI_sA, gI_sQ, gI_sL, gI_sD, gR_sI, gR_sA, gR_sQ, gR_sL, gR_sD, gA_sI, gA_sR, gA_sQ, gA_sL, gA_sD, gQ_sI, gQ_sR, gQ_sA, gQ_sL, gQ_sD, gL_sI, gL_sR, gL_sA, gL_sQ, gL_sD]; first | done | assumption | with_reducible rfl) | rfl) ?_
    refine r_dup dJ2_addAll_39 rfl ?_
    refine r_istore dJ2_addAll_40 (Nat.le_of_ble_eq_true rfl) (by simp only [lset]; rfl) ?_
    refine r_isub dJ2_addAll_42 ?_
    refine r_icmp_le (tgt := 56) dJ2_addAll_43 (by decide) (fun h43 => ?_) (fun h43 => ?_)
    · exact absurd h43 (by
        have := nI_ge (a := 0) hpos (by omega)
        have e9 : (0 : Int32) - nI 0 = nI 0 := by decide
        rw [e9]
        exact this)
    · refine r_aload_n (i := 0) dJ2_addAll_46 rfl rfl ?_
      refine r_iload dJ2_addAll_47 rfl ?_
      refine r_iload_n (i := 3) dJ2_addAll_49 rfl rfl ?_
      refine r_iadd dJ2_addAll_50 ?_
      try simp only [nI_add]
      refine r_callV (As := [_]) (mc' := 1) (ms' := 10) dJ2_addAll_51 k_J2_69 rfl (by first | assumption | (simp only [kd_sI, kd_sR, kd_sA, kd_sQ, kd_sL, kd_sD, ln_sI, ln_sR, ln_sA, ln_sQ, ln_sL, ln_sD, gI_sR, gI_sA, gI_sQ, gI_sL, gI_sD, gR_sI, gR_sA, gR_sQ, gR_sL, gR_sD, gA_sI, gA_sR, gA_sQ, gA_sL, gA_sD, gQ_sI, gQ_sR, gQ_sA, gQ_sL, gQ_sD, gL_sI, gL_sR, gL_sA, gL_sQ, gL_sD]; assumption) | simp [kd_sI, kd_sR, kd_sA, kd_sQ, kd_sL, kd_sD, ln_sI, ln_sR, ln_sA, ln_sQ, ln_sL, ln_sD, gI_sR, gI_sA, gI_sQ, gI_sL, gI_sD, gR_sI, gR_sA, gR_sQ, gR_sL, gR_sD, gA_sI, gA_sR, gA_sQ, gA_sL, gA_sD, gQ_sI, gQ_sR, gQ_sA, gQ_sL, gQ_sD, gL_sI, gL_sR, gL_sA, gL_sQ, gL_sD, kd_nO, kd_nA, *]) (T := TJ2) (N := 3) rfl (by first | assumption | omega) (by first | assumption | omega) (by first | assumption | omega) (Nat.le_of_ble_eq_true rfl) ?_
      refine s_growE (m := 0 + n2) (by omega) c1 c3 (by omega) (fun q2 hq2 => ?_)
      have hne : q ≠ q2 := fun h => by rw [h, hq2] at c4; cases c4
      have hneL : L ≠ q2 := fun h => by rw [h, hq2] at c1; cases c1
      show AW mJ2_addAll G d Qr Qx _ _ _ 54 _ _
      refine AW.name (fun H3 hH3 => ?_)
      have hK3 : Ks (fun a => a = L) H H3 := by
        rw [hH3]
        exact (hK2.nA hq2).sR (fun _ => rfl)
      have d1 : kd H3 L = 20 := hK3.kk a1 (by decide)
      have d2 : gI H3 97 L = nI 0 := by rw [hH3]; exact c2
      have d3 : gR H3 96 L = some q2 := by rw [hH3]; exact gR_sRs
      have d4 : kd H3 q = 4096 := by rw [hH3, kd_sR, kd_nA, if_neg hne]; exact c4
      have d5 : ln H3 q = n2 := by rw [hH3, ln_sR, ln_nA, if_neg hne]; exact c5
      have d6 : ∀ i, i < n2 → gQ H3 4096 q i = some (ys i) := by rw [hH3, gQ_sR, gQ_nA, if_neg (fun h => hne h.2)]; exact c6
      have d7 : kd H3 q2 = 4096 := by rw [hH3, kd_sR, kd_nA, if_pos rfl]
      have d8 : ln H3 q2 = 10 := by rw [hH3, ln_sR, ln_nA, if_pos rfl]
      refine r_astore dJ2_addAll_54 (Nat.le_of_ble_eq_true rfl) (by simp only [lset]; rfl) ?_
      refine r_aload_n (i := 2) dJ2_addAll_56 rfl rfl ?_
      refine r_iconst (v := nI 0) dJ2_addAll_57 (by decide) ?_
      refine r_aload dJ2_addAll_58 rfl ?_
      refine r_iload dJ2_addAll_60 rfl ?_
      refine r_iload_n (i := 3) dJ2_addAll_62 rfl rfl ?_
      refine r_copy_obj dJ2_addAll_63 q1558 (by first | assumption | (simp only [kd_sI, kd_sR, kd_sA, kd_sQ, kd_sL, kd_sD, ln_sI, ln_sR, ln_sA, ln_sQ, ln_sL, ln_sD, gI_sR, gI_sA, gI_sQ, gI_sL, gI_sD, gR_sI, gR_sA, gR_sQ, gR_sL, gR_sD, gA_sI, gA_sR, gA_sQ, gA_sL, gA_sD, gQ_sI, gQ_sR, gQ_sA, gQ_sL, gQ_sD, gL_sI, gL_sR, gL_sA, gL_sQ, gL_sD]; assumption) | simp [kd_sI, kd_sR, kd_sA, kd_sQ, kd_sL, kd_sD, ln_sI, ln_sR, ln_sA, ln_sQ, ln_sL, ln_sD, gI_sR, gI_sA, gI_sQ, gI_sL, gI_sD, gR_sI, gR_sA, gR_sQ, gR_sL, gR_sD, gA_sI, gA_sR, gA_sQ, gA_sL, gA_sD, gQ_sI, gQ_sR, gQ_sA, gQ_sL, gQ_sD, gL_sI, gL_sR, gL_sA, gL_sQ, gL_sD, kd_nO, kd_nA, *]) (by first | decide | assumption) (by first | assumption | (simp only [kd_sI, kd_sR, kd_sA, kd_sQ, kd_sL, kd_sD, ln_sI, ln_sR, ln_sA, ln_sQ, ln_sL, ln_sD, gI_sR, gI_sA, gI_sQ, gI_sL, gI_sD, gR_sI, gR_sA, gR_sQ, gR_sL, gR_sD, gA_sI, gA_sR, gA_sQ, gA_sL, gA_sD, gQ_sI, gQ_sR, gQ_sA, gQ_sL, gQ_sD, gL_sI, gL_sR, gL_sA, gL_sQ, gL_sD]; assumption) | simp [kd_sI, kd_sR, kd_sA, kd_sQ, kd_sL, kd_sD, ln_sI, ln_sR, ln_sA, ln_sQ, ln_sL, ln_sD, gI_sR, gI_sA, gI_sQ, gI_sL, gI_sD, gR_sI, gR_sA, gR_sQ, gR_sL, gR_sD, gA_sI, gA_sR, gA_sQ, gA_sL, gA_sD, gQ_sI, gQ_sR, gQ_sA, gQ_sL, gQ_sD, gL_sI, gL_sR, gL_sA, gL_sQ, gL_sD, kd_nO, kd_nA, *]) (by first | decide | assumption) (by first | assumption | exact gI_sIs | exact gR_sRs | with_reducible rfl | (simp only [kd_sI, kd_sR, kd_sA, kd_sQ, kd_sL, kd_sD, ln_sI, ln_sR, ln_sA, ln_sQ, ln_sL, ln_sD, gI_sR, gI_sA, gI_sQ, gI_sL, gI_sD, gR_sI, gR_sA, gR_sQ, gR_sL, gR_sD, gA_sI, gA_sR, gA_sQ, gA_sL, gA_sD, gQ_sI, gQ_sR, gQ_sA, gQ_sL, gQ_sD, gL_sI, gL_sR, gL_sA, gL_sQ, gL_sD]; first | done | assumption | with_reducible rfl) | rfl) (by first | assumption | exact gI_sIs | exact gR_sRs | with_reducible rfl | (simp only [kd_sI, kd_sR, kd_sA, kd_sQ, kd_sL, kd_sD, ln_sI, ln_sR, ln_sA, ln_sQ, ln_sL, ln_sD, gI_sR, gI_sA, gI_sQ, gI_sL, gI_sD, gR_sI, gR_sA, gR_sQ, gR_sL, gR_sD, gA_sI, gA_sR, gA_sQ, gA_sL, gA_sD, gQ_sI, gQ_sR, gQ_sA, gQ_sL, gQ_sD, gL_sI, gL_sR, gL_sA, gL_sQ, gL_sD]; first | done | assumption | with_reducible rfl) | rfl) (by first | with_reducible rfl | assumption | (simp only [nI_add, pk_mul, nI_1]; with_reducible rfl)) (by first | with_reducible rfl | assumption | (simp only [nI_add, pk_mul, nI_1]; with_reducible rfl)) (by first | with_reducible rfl | assumption | (simp only [nI_add, pk_mul, nI_1]; with_reducible rfl)) (by first | assumption | omega) (by first | assumption | omega) (by first | assumption | omega) (by first | assumption | omega) ?_ (by first | assumption | omega) (Nat.le_of_ble_eq_true rfl) ?_
      · intro x hx y hy
        rw [Nat.zero_add, d6 x hx] at hy
        cases hy
        exact (b4 x hx).ks hK3
      · refine r_aload_n (i := 0) dJ2_addAll_66 rfl rfl ?_
        refine r_iload dJ2_addAll_67 rfl ?_
        refine r_iload_n (i := 3) dJ2_addAll_69 rfl rfl ?_
        refine r_iadd dJ2_addAll_70 ?_
        try simp only [nI_add]
        refine r_putI dJ2_addAll_71 fG_J2_48 (fun _ => by first | rfl | contradiction) (by first | assumption | (simp only [kd_sI, kd_sR, kd_sA, kd_sQ, kd_sL, kd_sD, ln_sI, ln_sR, ln_sA, ln_sQ, ln_sL, ln_sD, gI_sR, gI_sA, gI_sQ, gI_sL, gI_sD, gR_sI, gR_sA, gR_sQ, gR_sL, gR_sD, gA_sI, gA_sR, gA_sQ, gA_sL, gA_sD, gQ_sI, gQ_sR, gQ_sA, gQ_sL, gQ_sD, gL_sI, gL_sR, gL_sA, gL_sQ, gL_sD]; assumption) | simp [kd_sI, kd_sR, kd_sA, kd_sQ, kd_sL, kd_sD, ln_sI, ln_sR, ln_sA, ln_sQ, ln_sL, ln_sD, gI_sR, gI_sA, gI_sQ, gI_sL, gI_sD, gR_sI, gR_sA, gR_sQ, gR_sL, gR_sD, gA_sI, gA_sR, gA_sQ, gA_sL, gA_sD, gQ_sI, gQ_sR, gQ_sA, gQ_sL, gQ_sD, gL_sI, gL_sR, gL_sA, gL_sQ, gL_sD, kd_nO, kd_nA, *]) (by first | rfl | assumption) (by first | rfl | assumption) ?_
        refine r_iconst (v := nI 1) dJ2_addAll_74 (by decide) ?_
        refine r_ireturn dJ2_addAll_75 rfl (by first | rfl | assumption | exact vp_nar_int _ | exact pk_nc _) ?_
        have hK4 : Ks (fun a => a = L) H (sI (sQ H3 4096 q2 (va_cpy (gQ H3 4096 q) (gQ H3 4096 q2) 0 0 n2)) 97 L (nI (0 + n2))) := (hK3.sQ (fun h => absurd (hK2.fr hq2) h)).sI (fun _ => rfl)
        refine hQ _ q2 _ hK4 (Or.inr (hK2.fr hq2)) ⟨d1, ?_, d3, fun i hi => (b4 i hi).ks hK4, Or.inr ⟨d7, ?_, ?_, ?_, fun i hi => ?_⟩⟩
        · rw [gI_sIs, Nat.zero_add]
        · show n2 ≤ ln H3 q2
          rw [d8]
          exact hn
        · show 10 ≤ ln H3 q2
          rw [d8]
          decide
        · show ln H3 q2 ≤ 22
          rw [d8]
          decide
        · show gQ (sQ H3 4096 q2 _) 4096 q2 i = _
          rw [gQ_sQs]
          have e8 := va_cpy_in (gQ H3 4096 q) (gQ H3 4096 q2) 0 0 n2 i hi
          rw [Nat.zero_add] at e8
          rw [e8]
          exact d6 i hi
  · have hz : n2 = 0 := Classical.byContradiction fun w => nI_ne0 (by omega) (by omega) h21
    subst hz
    refine r_iconst (v := nI 0) dJ2_addAll_24 (by decide) ?_
    refine r_ireturn dJ2_addAll_25 rfl (by first | rfl | assumption | exact vp_nar_int _ | exact pk_nc _) ?_
    exact hQ _ (gSt G 1) _ ((hK.mono (fun _ _ f => f.elim)).sI (fun _ => rfl)) (Or.inl rfl) ⟨a1', by rw [gI_sIn (by decide)]; exact a2', a3', fun i hi => absurd hi (by omega), Or.inl ⟨rfl, rfl⟩⟩
theorem s_rangeAdd {i : Nat} (h1 : kd H L = 20) (h2 : gI H 97 L = nI n) (hi : i ≤ n) (hn : n < 1000) (hQ : Qr none H) : AMet G d 0 0 yJ2_rangeCheckForAdd wJ2_rangeCheckForAdd H [vR (some L), vI (nI i)] Qr Qx := by
  refine AMet.of (M := mJ2_rangeCheckForAdd) (maxL := 2) (by first | rfl | decide +kernel) rfl (Nat.le_of_ble_eq_true rfl) ?_
  show AW mJ2_rangeCheckForAdd _ _ _ _ _ _ _ 0 [some (vR (some L)), some (vI (nI i))] []
  refine r_iload_n (i := 1) dJ2_rangeCheckForAdd_0 rfl rfl ?_
  refine r_aload_n (i := 0) dJ2_rangeCheckForAdd_1 rfl rfl ?_
  refine r_getI dJ2_rangeCheckForAdd_2 fR_J2_48 (by first | assumption | (simp only [kd_sI, kd_sR, kd_sA, kd_sQ, kd_sL, kd_sD, ln_sI, ln_sR, ln_sA, ln_sQ, ln_sL, ln_sD, gI_sR, gI_sA, gI_sQ, gI_sL, gI_sD, gR_sI, gR_sA, gR_sQ, gR_sL, gR_sD, gA_sI, gA_sR, gA_sQ, gA_sL, gA_sD, gQ_sI, gQ_sR, gQ_sA, gQ_sL, gQ_sD, gL_sI, gL_sR, gL_sA, gL_sQ, gL_sD]; assumption) | simp [kd_sI, kd_sR, kd_sA, kd_sQ, kd_sL, kd_sD, ln_sI, ln_sR, ln_sA, ln_sQ, ln_sL, ln_sD, gI_sR, gI_sA, gI_sQ, gI_sL, gI_sD, gR_sI, gR_sA, gR_sQ, gR_sL, gR_sD, gA_sI, gA_sR, gA_sQ, gA_sL, gA_sD, gQ_sI, gQ_sR, gQ_sA, gQ_sL, gQ_sD, gL_sI, gL_sR, gL_sA, gL_sQ, gL_sD, kd_nO, kd_nA, *]) (by first | assumption | exact gI_sIs | exact gR_sRs | with_reducible rfl | (simp only [kd_sI, kd_sR, kd_sA, kd_sQ, kd_sL, kd_sD, ln_sI, ln_sR, ln_sA, ln_sQ, ln_sL, ln_sD, gI_sR, gI_sA, gI_sQ, gI_sL, gI_sD, gR_sI, gR_sA, gR_sQ, gR_sL, gR_sD, gA_sI, gA_sR, gA_sQ, gA_sL, gA_sD, gQ_sI, gQ_sR, gQ_sA, gQ_sL, gQ_sD, gL_sI, gL_sR, gL_sA, gL_sQ, gL_sD]; first | done | assumption | with_reducible rfl) | rfl) ?_
  refine r_icmp_gt (tgt := 12) dJ2_rangeCheckForAdd_5 (by decide) (fun h5 => ?_) (fun h5 => ?_)
  · exact absurd h5 (nI_nlt hi (by omega))
  · refine r_iload_n (i := 1) dJ2_rangeCheckForAdd_8 rfl rfl ?_
    refine r_if_ge (tgt := 25) dJ2_rangeCheckForAdd_9 (by decide) (fun h9 => ?_) (fun h9 => ?_)
    · refine r_return dJ2_rangeCheckForAdd_25 rfl ?_
      exact hQ
    · exact absurd (nI_pos' (by omega)) h9
/-- what is there when x is put in at i -/
def inX (xs : Nat → Nat) (i x j : Nat) : Nat := if j < i then xs j else if j = i then x else xs (j - 1)
theorem s_addAt {i x : Nat} (hd : 6 ≤ d) (h : LsO G H L n xs e) (hi : i ≤ n) (hn : n ≤ 15) (hx : isObj G H x) (hQ : ∀ H' e', Ks (SL L e) H H' → (e' = e ∨ kd H e' = 0) → LsO G H' L (n + 1) (inX xs i x) e' → Qr none H') : AMet G d 1 22 yJ2_add_3 wJ2_add_3 H [vR (some L), vI (nI i), vR (some x)] Qr Qx := by
  obtain ⟨a1, a2, a3, a4, a5⟩ := h
  obtain ⟨mc, hmc⟩ : ∃ mc, gI H 95 L = mc := ⟨_, rfl⟩
  refine AMet.of (M := mJ2_add_3) (maxL := 5) (by first | rfl | decide +kernel) rfl (Nat.le_of_ble_eq_true rfl) ?_
  show AW mJ2_add_3 _ _ _ _ _ _ _ 0 [some (vR (some L)), some (vI (nI i)), some (vR (some x)), none, none] []
  -- the end, from 38 on with the array e2
  have fin : ∀ (H1 : AH) (e2 rc rs : Nat), Ks (SL L e) H H1 → (e2 = e ∨ kd H e2 = 0) → gR H1 96 L = some e2 → gI H1 97 L = nI n → kd H1 e2 = 4096 → n < ln H1 e2 → 10 ≤ ln H1 e2 → ln H1 e2 ≤ 22 → (∀ i, i < n → gQ H1 4096 e2 i = some (xs i)) → AW mJ2_add_3 G d Qr Qx rc rs H1 38 [some (vR (some L)), some (vI (nI i)), some (vR (some x)), some (vI (nI n)), some (vR (some e2))] [] := by
    intro H1 e2 rc rs hK he2 b1 b2 b3 b4 b5 b6 b7
    have k1 : kd H1 L = 20 := hK.kk a1 (by decide)
    have hx1 : isObj G H1 x := hx.ks hK
    obtain ⟨l1, hl1⟩ : ∃ l1, ln H1 e2 = l1 := ⟨_, rfl⟩
    rw [hl1] at b4 b5 b6
    have hLe : L ≠ e2 := ne_of_kd k1 b3 (by decide)
    have hne : nI n - nI i = nI (n - i) := nI_sub hi
    have hS : kd H e2 ≠ 0 → SL L e e2 := fun q => by
      rcases he2 with he2 | he2
      · exact Or.inr he2
      · exact absurd he2 q
    refine r_aload dJ2_add_3_38 rfl ?_
    refine r_iload_n (i := 1) dJ2_add_3_40 rfl rfl ?_
    refine r_aload dJ2_add_3_41 rfl ?_
    refine r_iload_n (i := 1) dJ2_add_3_43 rfl rfl ?_
    refine r_iconst (v := nI 1) dJ2_add_3_44 (by decide) ?_
    refine r_iadd dJ2_add_3_45 ?_
    try simp only [nI_add]
    refine r_iload_n (i := 3) dJ2_add_3_46 rfl rfl ?_
    refine r_iload_n (i := 1) dJ2_add_3_47 rfl rfl ?_
    refine r_isub dJ2_add_3_48 ?_
    rw [hne]
    refine r_copy_obj dJ2_add_3_49 q1558 (by first | assumption | (simp only [kd_sI, kd_sR, kd_sA, kd_sQ, kd_sL, kd_sD, ln_sI, ln_sR, ln_sA, ln_sQ, ln_sL, ln_sD, gI_sR, gI_sA, gI_sQ, gI_sL, gI_sD, gR_sI, gR_sA, gR_sQ, gR_sL, gR_sD, gA_sI, gA_sR, gA_sQ, gA_sL, gA_sD, gQ_sI, gQ_sR, gQ_sA, gQ_sL, gQ_sD, gL_sI, gL_sR, gL_sA, gL_sQ, gL_sD]; assumption) | simp [kd_sI, kd_sR, kd_sA, kd_sQ, kd_sL, kd_sD, ln_sI, ln_sR, ln_sA, ln_sQ, ln_sL, ln_sD, gI_sR, gI_sA, gI_sQ, gI_sL, gI_sD, gR_sI, gR_sA, gR_sQ, gR_sL, gR_sD, gA_sI, gA_sR, gA_sQ, gA_sL, gA_sD, gQ_sI, gQ_sR, gQ_sA, gQ_sL, gQ_sD, gL_sI, gL_sR, gL_sA, gL_sQ, gL_sD, kd_nO, kd_nA, *]) (by first | decide | assumption) (by first | assumption | (simp only [kd_sI, kd_sR, kd_sA, kd_sQ, kd_sL, kd_sD, ln_sI, ln_sR, ln_sA, ln_sQ, ln_sL, ln_sD, gI_sR, gI_sA, gI_sQ, gI_sL, gI_sD, gR_sI, gR_sA, gR_sQ, gR_sL, gR_sD, gA_sI, gA_sR, gA_sQ, gA_sL, gA_sD, gQ_sI, gQ_sR, gQ_sA, gQ_sL, gQ_sD, gL_sI, gL_sR, gL_sA, gL_sQ, gL_sD]; assumption) | simp [kd_sI, kd_sR, kd_sA, kd_sQ, kd_sL, kd_sD, ln_sI, ln_sR, ln_sA, ln_sQ, ln_sL, ln_sD, gI_sR, gI_sA, gI_sQ, gI_sL, gI_sD, gR_sI, gR_sA, gR_sQ, gR_sL, gR_sD, gA_sI, gA_sR, gA_sQ, gA_sL, gA_sD, gQ_sI, gQ_sR, gQ_sA, gQ_sL, gQ_sD, gL_sI, gL_sR, gL_sA, gL_sQ, gL_sD, kd_nO, kd_nA, *]) (by first | decide | assumption) (by first | assumption | exact gI_sIs | exact gR_sRs | with_reducible rfl | (simp only [kd_sI, kd_sR, kd_sA, kd_sQ, kd_sL, kd_sD, ln_sI, ln_sR, ln_sA, ln_sQ, ln_sL, ln_sD, gI_sR, gI_sA, gI_sQ, gI_sL, gI_sD, gR_sI, gR_sA, gR_sQ, gR_sL, gR_sD, gA_sI, gA_sR, gA_sQ, gA_sL, gA_sD, gQ_sI, gQ_sR, gQ_sA, gQ_sL, gQ_sD, gL_sI, gL_sR, gL_sA, gL_sQ, gL_sD]; first | done | assumption | with_reducible rfl) | rfl) (by first | assumption | exact gI_sIs | exact gR_sRs | with_reducible rfl | (simp only [kd_sI, kd_sR, kd_sA, kd_sQ, kd_sL, kd_sD, ln_sI, ln_sR, ln_sA, ln_sQ, ln_sL, ln_sD, gI_sR, gI_sA, gI_sQ, gI_sL, gI_sD, gR_sI, gR_sA, gR_sQ, gR_sL, gR_sD, gA_sI, gA_sR, gA_sQ, gA_sL, gA_sD, gQ_sI, gQ_sR, gQ_sA, gQ_sL, gQ_sD, gL_sI, gL_sR, gL_sA, gL_sQ, gL_sD]; first | done | assumption | with_reducible rfl) | rfl) (by first | with_reducible rfl | assumption | (simp only [nI_add, pk_mul, nI_1]; with_reducible rfl)) (by first | with_reducible rfl | assumption | (simp only [nI_add, pk_mul, nI_1]; with_reducible rfl)) (by first | with_reducible rfl | assumption | (simp only [nI_add, pk_mul, nI_1]; with_reducible rfl)) (by first | assumption | omega) (by first | assumption | omega) (by first | assumption | omega) (by first | assumption | omega) ?_ (by first | assumption | omega) (Nat.le_of_ble_eq_true rfl) ?_
    · intro z hz y hy
      rw [b7 _ (by omega)] at hy
      cases hy
      exact (a4 _ (by omega)).ks hK
    · refine r_aload dJ2_add_3_52 rfl ?_
      refine r_iload_n (i := 1) dJ2_add_3_54 rfl rfl ?_
      refine r_aload_n (i := 2) dJ2_add_3_55 rfl rfl ?_
      refine r_qast dJ2_add_3_56 (by first | assumption | (simp only [kd_sI, kd_sR, kd_sA, kd_sQ, kd_sL, kd_sD, ln_sI, ln_sR, ln_sA, ln_sQ, ln_sL, ln_sD, gI_sR, gI_sA, gI_sQ, gI_sL, gI_sD, gR_sI, gR_sA, gR_sQ, gR_sL, gR_sD, gA_sI, gA_sR, gA_sQ, gA_sL, gA_sD, gQ_sI, gQ_sR, gQ_sA, gQ_sL, gQ_sD, gL_sI, gL_sR, gL_sA, gL_sQ, gL_sD]; assumption) | simp [kd_sI, kd_sR, kd_sA, kd_sQ, kd_sL, kd_sD, ln_sI, ln_sR, ln_sA, ln_sQ, ln_sL, ln_sD, gI_sR, gI_sA, gI_sQ, gI_sL, gI_sD, gR_sI, gR_sA, gR_sQ, gR_sL, gR_sD, gA_sI, gA_sR, gA_sQ, gA_sL, gA_sD, gQ_sI, gQ_sR, gQ_sA, gQ_sL, gQ_sD, gL_sI, gL_sR, gL_sA, gL_sQ, gL_sD, kd_nO, kd_nA, *]) (by decide) (by first | assumption | exact gI_sIs | exact gR_sRs | with_reducible rfl | (simp only [kd_sI, kd_sR, kd_sA, kd_sQ, kd_sL, kd_sD, ln_sI, ln_sR, ln_sA, ln_sQ, ln_sL, ln_sD, gI_sR, gI_sA, gI_sQ, gI_sL, gI_sD, gR_sI, gR_sA, gR_sQ, gR_sL, gR_sD, gA_sI, gA_sR, gA_sQ, gA_sL, gA_sD, gQ_sI, gQ_sR, gQ_sA, gQ_sL, gQ_sD, gL_sI, gL_sR, gL_sA, gL_sQ, gL_sD]; first | done | assumption | with_reducible rfl) | rfl) (by first | with_reducible rfl | assumption | (simp only [nI_add, pk_mul, nI_1]; with_reducible rfl)) (by first | assumption | omega) (by first | assumption | omega) ?_ ?_
      · intro b hb
        cases hb
        exact hx1
      · refine r_aload_n (i := 0) dJ2_add_3_57 rfl rfl ?_
        refine r_iload_n (i := 3) dJ2_add_3_58 rfl rfl ?_
        refine r_iconst (v := nI 1) dJ2_add_3_59 (by decide) ?_
        refine r_iadd dJ2_add_3_60 ?_
        try simp only [nI_add]
        refine r_putI dJ2_add_3_61 fG_J2_48 (fun _ => by first | rfl | contradiction) (by first | assumption | (simp only [kd_sI, kd_sR, kd_sA, kd_sQ, kd_sL, kd_sD, ln_sI, ln_sR, ln_sA, ln_sQ, ln_sL, ln_sD, gI_sR, gI_sA, gI_sQ, gI_sL, gI_sD, gR_sI, gR_sA, gR_sQ, gR_sL, gR_sD, gA_sI, gA_sR, gA_sQ, gA_sL, gA_sD, gQ_sI, gQ_sR, gQ_sA, gQ_sL, gQ_sD, gL_sI, gL_sR, gL_sA, gL_sQ, gL_sD]; assumption) | simp [kd_sI, kd_sR, kd_sA, kd_sQ, kd_sL, kd_sD, ln_sI, ln_sR, ln_sA, ln_sQ, ln_sL, ln_sD, gI_sR, gI_sA, gI_sQ, gI_sL, gI_sD, gR_sI, gR_sA, gR_sQ, gR_sL, gR_sD, gA_sI, gA_sR, gA_sQ, gA_sL, gA_sD, gQ_sI, gQ_sR, gQ_sA, gQ_sL, gQ_sD, gL_sI, gL_sR, gL_sA, gL_sQ, gL_sD, kd_nO, kd_nA, *]) (by first | rfl | assumption) (by first | rfl | assumption) ?_
        refine r_return dJ2_add_3_64 rfl ?_
        have hK2 : Ks (SL L e) H (sI (sQ (sQ H1 4096 e2 (va_cpy (gQ H1 4096 e2) (gQ H1 4096 e2) i (i + 1) (n - i))) 4096 e2 (va_up (gQ (sQ H1 4096 e2 (va_cpy (gQ H1 4096 e2) (gQ H1 4096 e2) i (i + 1) (n - i))) 4096 e2) i (some x))) 97 L (nI (n + 1))) := ((hK.sQ hS).sQ hS).sI (fun _ => Or.inl rfl)
        refine hQ _ e2 hK2 he2 ⟨k1, gI_sIs, b1, fun j hj => ?_, Or.inr ⟨b3, ?_, ?_, ?_, fun j hj => ?_⟩⟩
        · unfold inX
          split
          · exact (a4 j (by omega)).ks hK2
          · split
            · exact hx.ks hK2
            · exact (a4 (j - 1) (by omega)).ks hK2
        · show n + 1 ≤ ln H1 e2
          rw [hl1]
          omega
        · show 10 ≤ ln H1 e2
          rw [hl1]
          exact b5
        · show ln H1 e2 ≤ 22
          rw [hl1]
          exact b6
        · show gQ (sQ (sQ H1 4096 e2 _) 4096 e2 _) 4096 e2 j = _
          rw [gQ_sQs, gQ_sQs]
          unfold va_up inX
          by_cases hj1 : j = i
          · rw [if_pos hj1, if_neg (by omega), if_pos hj1]
          · rw [if_neg hj1]
            by_cases hj2 : j < i
            · rw [if_pos hj2, va_cpy_out _ _ _ _ _ _ (Or.inl (by omega))]
              exact b7 j (by omega)
            · rw [if_neg hj2, if_neg hj1]
              have e8 := va_cpy_in (gQ H1 4096 e2) (gQ H1 4096 e2) i (i + 1) (n - i) (j - 1 - i) (by omega)
              rw [show i + 1 + (j - 1 - i) = j by omega, show i + (j - 1 - i) = j - 1 by omega] at e8
              rw [e8]
              exact b7 (j - 1) (by omega)
  refine r_aload_n (i := 0) dJ2_add_3_0 rfl rfl ?_
  refine r_iload_n (i := 1) dJ2_add_3_1 rfl rfl ?_
  refine r_callV (As := [_]) (mc' := 0) (ms' := 0) dJ2_add_3_2 k_J2_135 rfl (by first | assumption | (simp only [kd_sI, kd_sR, kd_sA, kd_sQ, kd_sL, kd_sD, ln_sI, ln_sR, ln_sA, ln_sQ, ln_sL, ln_sD, gI_sR, gI_sA, gI_sQ, gI_sL, gI_sD, gR_sI, gR_sA, gR_sQ, gR_sL, gR_sD, gA_sI, gA_sR, gA_sQ, gA_sL, gA_sD, gQ_sI, gQ_sR, gQ_sA, gQ_sL, gQ_sD, gL_sI, gL_sR, gL_sA, gL_sQ, gL_sD]; assumption) | simp [kd_sI, kd_sR, kd_sA, kd_sQ, kd_sL, kd_sD, ln_sI, ln_sR, ln_sA, ln_sQ, ln_sL, ln_sD, gI_sR, gI_sA, gI_sQ, gI_sL, gI_sD, gR_sI, gR_sA, gR_sQ, gR_sL, gR_sD, gA_sI, gA_sR, gA_sQ, gA_sL, gA_sD, gQ_sI, gQ_sR, gQ_sA, gQ_sL, gQ_sD, gL_sI, gL_sR, gL_sA, gL_sQ, gL_sD, kd_nO, kd_nA, *]) (T := TJ2) (N := 3) rfl (by first | assumption | omega) (by first | assumption | omega) (by first | assumption | omega) (Nat.le_of_ble_eq_true rfl) ?_
  refine s_rangeAdd a1 a2 hi (by omega) ?_
  show AW mJ2_add_3 G d Qr Qx _ _ _ 5 _ _
  rcases a5 with ⟨rfl, rfl⟩ | ⟨b1, b2, b3, b4, b5⟩
  · refine r_aload_n (i := 0) dJ2_add_3_5 rfl rfl ?_
    refine r_dup dJ2_add_3_6 rfl ?_
    refine r_getI dJ2_add_3_7 fR_J2_63 (by first | assumption | (simp only [kd_sI, kd_sR, kd_sA, kd_sQ, kd_sL, kd_sD, ln_sI, ln_sR, ln_sA, ln_sQ, ln_sL, ln_sD, gI_sR, gI_sA, gI_sQ, gI_sL, gI_sD, gR_sI, gR_sA, gR_sQ, gR_sL, gR_sD, gA_sI, gA_sR, gA_sQ, gA_sL, gA_sD, gQ_sI, gQ_sR, gQ_sA, gQ_sL, gQ_sD, gL_sI, gL_sR, gL_sA, gL_sQ, gL_sD]; assumption) | simp [kd_sI, kd_sR, kd_sA, kd_sQ, kd_sL, kd_sD, ln_sI, ln_sR, ln_sA, ln_sQ, ln_sL, ln_sD, gI_sR, gI_sA, gI_sQ, gI_sL, gI_sD, gR_sI, gR_sA, gR_sQ, gR_sL, gR_sD, gA_sI, gA_sR, gA_sQ, gA_sL, gA_sD, gQ_sI, gQ_sR, gQ_sA, gQ_sL, gQ_sD, gL_sI, gL_sR, gL_sA, gL_sQ, gL_sD, kd_nO, kd_nA, *]) (by first | assumption | exact gI_sIs | exact gR_sRs | with_reducible rfl | (simp only [kd_sI, kd_sR, kd_sA, kd_sQ, kd_sL, kd_sD, ln_sI, ln_sR, ln_sA, ln_sQ, ln_sL, ln_sD, gI_sR, gI_sA, gI_sQ, gI_sL, gI_sD, gR_sI, gR_sA, gR_sQ, gR_sL, gR_sD, gA_sI, gA_sR, gA_sQ, gA_sL, gA_sD, gQ_sI, gQ_sR, gQ_sA, gQ_sL, gQ_sD, gL_sI, gL_sR, gL_sA, gL_sQ, gL_sD]; first | done | assumption | with_reducible rfl) | rfl) ?_
    refine r_iconst (v := nI 1) dJ2_add_3_10 (by decide) ?_
    refine r_iadd dJ2_add_3_11 ?_
    try simp only [nI_add]
    refine r_putI dJ2_add_3_12 fG_J2_63 (fun _ => by first | rfl | contradiction) (by first | assumption | (simp only [kd_sI, kd_sR, kd_sA, kd_sQ, kd_sL, kd_sD, ln_sI, ln_sR, ln_sA, ln_sQ, ln_sL, ln_sD, gI_sR, gI_sA, gI_sQ, gI_sL, gI_sD, gR_sI, gR_sA, gR_sQ, gR_sL, gR_sD, gA_sI, gA_sR, gA_sQ, gA_sL, gA_sD, gQ_sI, gQ_sR, gQ_sA, gQ_sL, gQ_sD, gL_sI, gL_sR, gL_sA, gL_sQ, gL_sD]; assumption) | simp [kd_sI, kd_sR, kd_sA, kd_sQ, kd_sL, kd_sD, ln_sI, ln_sR, ln_sA, ln_sQ, ln_sL, ln_sD, gI_sR, gI_sA, gI_sQ, gI_sL, gI_sD, gR_sI, gR_sA, gR_sQ, gR_sL, gR_sD, gA_sI, gA_sR, gA_sQ, gA_sL, gA_sD, gQ_sI, gQ_sR, gQ_sA, gQ_sL, gQ_sD, gL_sI, gL_sR, gL_sA, gL_sQ, gL_sD, kd_nO, kd_nA, *]) (by first | rfl | assumption) (by first | rfl | assumption) ?_
    refine r_aload_n (i := 0) dJ2_add_3_15 rfl rfl ?_
    refine r_getI dJ2_add_3_16 fR_J2_48 (by first | assumption | (simp only [kd_sI, kd_sR, kd_sA, kd_sQ, kd_sL, kd_sD, ln_sI, ln_sR, ln_sA, ln_sQ, ln_sL, ln_sD, gI_sR, gI_sA, gI_sQ, gI_sL, gI_sD, gR_sI, gR_sA, gR_sQ, gR_sL, gR_sD, gA_sI, gA_sR, gA_sQ, gA_sL, gA_sD, gQ_sI, gQ_sR, gQ_sA, gQ_sL, gQ_sD, gL_sI, gL_sR, gL_sA, gL_sQ, gL_sD]; assumption) | simp [kd_sI, kd_sR, kd_sA, kd_sQ, kd_sL, kd_sD, ln_sI, ln_sR, ln_sA, ln_sQ, ln_sL, ln_sD, gI_sR, gI_sA, gI_sQ, gI_sL, gI_sD, gR_sI, gR_sA, gR_sQ, gR_sL, gR_sD, gA_sI, gA_sR, gA_sQ, gA_sL, gA_sD, gQ_sI, gQ_sR, gQ_sA, gQ_sL, gQ_sD, gL_sI, gL_sR, gL_sA, gL_sQ, gL_sD, kd_nO, kd_nA, *]) (by first | assumption | exact gI_sIs | exact gR_sRs | with_reducible rfl | (simp only [kd_sI, kd_sR, kd_sA, kd_sQ, kd_sL, kd_sD, ln_sI, ln_sR, ln_sA, ln_sQ, ln_sL, ln_sD, gI_sR, gI_sA, gI_sQ, gI_sL, gI_sD, gR_sI, gR_sA, gR_sQ, gR_sL, gR_sD, gA_sI, gA_sR, gA_sQ, gA_sL, gA_sD, gQ_sI, gQ_sR, gQ_sA, gQ_sL, gQ_sD, gL_sI, gL_sR, gL_sA, gL_sQ, gL_sD]; first | done | assumption | with_reducible rfl) | rfl) ?_
    refine r_dup dJ2_add_3_19 rfl ?_
    refine r_istore_n (i := 3) dJ2_add_3_20 rfl (Nat.le_of_ble_eq_true rfl) (by simp only [lset]; rfl) ?_
    refine r_aload_n (i := 0) dJ2_add_3_21 rfl rfl ?_
    refine r_getR dJ2_add_3_22 fR_J2_9 (by first | assumption | (simp only [kd_sI, kd_sR, kd_sA, kd_sQ, kd_sL, kd_sD, ln_sI, ln_sR, ln_sA, ln_sQ, ln_sL, ln_sD, gI_sR, gI_sA, gI_sQ, gI_sL, gI_sD, gR_sI, gR_sA, gR_sQ, gR_sL, gR_sD, gA_sI, gA_sR, gA_sQ, gA_sL, gA_sD, gQ_sI, gQ_sR, gQ_sA, gQ_sL, gQ_sD, gL_sI, gL_sR, gL_sA, gL_sQ, gL_sD]; assumption) | simp [kd_sI, kd_sR, kd_sA, kd_sQ, kd_sL, kd_sD, ln_sI, ln_sR, ln_sA, ln_sQ, ln_sL, ln_sD, gI_sR, gI_sA, gI_sQ, gI_sL, gI_sD, gR_sI, gR_sA, gR_sQ, gR_sL, gR_sD, gA_sI, gA_sR, gA_sQ, gA_sL, gA_sD, gQ_sI, gQ_sR, gQ_sA, gQ_sL, gQ_sD, gL_sI, gL_sR, gL_sA, gL_sQ, gL_sD, kd_nO, kd_nA, *]) (by first | assumption | exact gI_sIs | exact gR_sRs | with_reducible rfl | (simp only [kd_sI, kd_sR, kd_sA, kd_sQ, kd_sL, kd_sD, ln_sI, ln_sR, ln_sA, ln_sQ, ln_sL, ln_sD, gI_sR, gI_sA, gI_sQ, gI_sL, gI_sD, gR_sI, gR_sA, gR_sQ, gR_sL, gR_sD, gA_sI, gA_sR, gA_sQ, gA_sL, gA_sD, gQ_sI, gQ_sR, gQ_sA, gQ_sL, gQ_sD, gL_sI, gL_sR, gL_sA, gL_sQ, gL_sD]; first | done | assumption | with_reducible rfl) | rfl) ?_
    refine r_dup dJ2_add_3_25 rfl ?_
    refine r_astore dJ2_add_3_26 (Nat.le_of_ble_eq_true rfl) (by simp only [lset]; rfl) ?_
    refine r_alenE dJ2_add_3_28 ?_
    refine r_icmp_ne (tgt := 38) dJ2_add_3_29 (by decide) (fun h29 => ?_) (fun h29 => ?_)
    · exact absurd rfl h29
    · have hK1 : Ks (SL L (gSt G 1)) H (sI H 95 L (mc + nI 1)) := Ks.rf.sI (fun _ => Or.inl rfl)
      have z2 : gI (sI H 95 L (mc + nI 1)) 97 L = nI 0 := by rw [gI_sIn (by decide)]; exact a2
      have z1 : kd (sI H 95 L (mc + nI 1)) L = 20 := a1
      have z3 : gR (sI H 95 L (mc + nI 1)) 96 L = some (gSt G 1) := a3
      refine r_aload_n (i := 0) dJ2_add_3_32 rfl rfl ?_
      refine r_callV (As := []) (mc' := 1) (ms' := 10) dJ2_add_3_33 k_J2_129 rfl (by first | assumption | (simp only [kd_sI, kd_sR, kd_sA, kd_sQ, kd_sL, kd_sD, ln_sI, ln_sR, ln_sA, ln_sQ, ln_sL, ln_sD, gI_sR, gI_sA, gI_sQ, gI_sL, gI_sD, gR_sI, gR_sA, gR_sQ, gR_sL, gR_sD, gA_sI, gA_sR, gA_sQ, gA_sL, gA_sD, gQ_sI, gQ_sR, gQ_sA, gQ_sL, gQ_sD, gL_sI, gL_sR, gL_sA, gL_sQ, gL_sD]; assumption) | simp [kd_sI, kd_sR, kd_sA, kd_sQ, kd_sL, kd_sD, ln_sI, ln_sR, ln_sA, ln_sQ, ln_sL, ln_sD, gI_sR, gI_sA, gI_sQ, gI_sL, gI_sD, gR_sI, gR_sA, gR_sQ, gR_sL, gR_sD, gA_sI, gA_sR, gA_sQ, gA_sL, gA_sD, gQ_sI, gQ_sR, gQ_sA, gQ_sL, gQ_sD, gL_sI, gL_sR, gL_sA, gL_sQ, gL_sD, kd_nO, kd_nA, *]) (T := TJ2) (N := 3) rfl (by first | assumption | omega) (by first | assumption | omega) (by first | assumption | omega) (Nat.le_of_ble_eq_true rfl) ?_
      refine s_growE0 (by omega) z1 z2 z3 (fun q hq => ?_)
      have hqL : L ≠ q := fun h => by rw [h, hK1.fr hq] at a1; cases a1
      show AW mJ2_add_3 G d Qr Qx _ _ _ 36 _ _
      refine r_astore dJ2_add_3_36 (Nat.le_of_ble_eq_true rfl) (by simp only [lset]; rfl) ?_
      refine fin _ q _ _ ((hK1.nA hq).sR (fun _ => Or.inl rfl)) (Or.inr (hK1.fr hq)) gR_sRs z2 (by rw [kd_sR, kd_nA, if_pos rfl]) (by rw [ln_sR, ln_nA, if_pos rfl]; decide) (by rw [ln_sR, ln_nA, if_pos rfl]; decide) (by rw [ln_sR, ln_nA, if_pos rfl]; decide) (fun i hi => absurd hi (by omega))
  · obtain ⟨c, hc⟩ : ∃ c, ln H e = c := ⟨_, rfl⟩
    rw [hc] at b2 b3 b4
    have hK1 : Ks (SL L e) H (sI H 95 L (mc + nI 1)) := Ks.rf.sI (fun _ => Or.inl rfl)
    have z2 : gI (sI H 95 L (mc + nI 1)) 97 L = nI n := by rw [gI_sIn (by decide)]; exact a2
    have z1 : kd (sI H 95 L (mc + nI 1)) L = 20 := a1
    have z3 : gR (sI H 95 L (mc + nI 1)) 96 L = some e := a3
    have z4 : kd (sI H 95 L (mc + nI 1)) e = 4096 := b1
    have z5 : ln (sI H 95 L (mc + nI 1)) e = c := hc
    refine r_aload_n (i := 0) dJ2_add_3_5 rfl rfl ?_
    refine r_dup dJ2_add_3_6 rfl ?_
    refine r_getI dJ2_add_3_7 fR_J2_63 (by first | assumption | (simp only [kd_sI, kd_sR, kd_sA, kd_sQ, kd_sL, kd_sD, ln_sI, ln_sR, ln_sA, ln_sQ, ln_sL, ln_sD, gI_sR, gI_sA, gI_sQ, gI_sL, gI_sD, gR_sI, gR_sA, gR_sQ, gR_sL, gR_sD, gA_sI, gA_sR, gA_sQ, gA_sL, gA_sD, gQ_sI, gQ_sR, gQ_sA, gQ_sL, gQ_sD, gL_sI, gL_sR, gL_sA, gL_sQ, gL_sD]; assumption) | simp [kd_sI, kd_sR, kd_sA, kd_sQ, kd_sL, kd_sD, ln_sI, ln_sR, ln_sA, ln_sQ, ln_sL, ln_sD, gI_sR, gI_sA, gI_sQ, gI_sL, gI_sD, gR_sI, gR_sA, gR_sQ, gR_sL, gR_sD, gA_sI, gA_sR, gA_sQ, gA_sL, gA_sD, gQ_sI, gQ_sR, gQ_sA, gQ_sL, gQ_sD, gL_sI, gL_sR, gL_sA, gL_sQ, gL_sD, kd_nO, kd_nA, *]) (by first | assumption | exact gI_sIs | exact gR_sRs | with_reducible rfl | (simp only [kd_sI, kd_sR, kd_sA, kd_sQ, kd_sL, kd_sD, ln_sI, ln_sR, ln_sA, ln_sQ, ln_sL, ln_sD, gI_sR, gI_sA, gI_sQ, gI_sL, gI_sD, gR_sI, gR_sA, gR_sQ, gR_sL, gR_sD, gA_sI, gA_sR, gA_sQ, gA_sL, gA_sD, gQ_sI, gQ_sR, gQ_sA, gQ_sL, gQ_sD, gL_sI, gL_sR, gL_sA, gL_sQ, gL_sD]; first | done | assumption | with_reducible rfl) | rfl) ?_
    refine r_iconst (v := nI 1) dJ2_add_3_10 (by decide) ?_
    refine r_iadd dJ2_add_3_11 ?_
    try simp only [nI_add]
    refine r_putI dJ2_add_3_12 fG_J2_63 (fun _ => by first | rfl | contradiction) (by first | assumption | (simp only [kd_sI, kd_sR, kd_sA, kd_sQ, kd_sL, kd_sD, ln_sI, ln_sR, ln_sA, ln_sQ, ln_sL, ln_sD, gI_sR, gI_sA, gI_sQ, gI_sL, gI_sD, gR_sI, gR_sA, gR_sQ, gR_sL, gR_sD, gA_sI, gA_sR, gA_sQ, gA_sL, gA_sD, gQ_sI, gQ_sR, gQ_sA, gQ_sL, gQ_sD, gL_sI, gL_sR, gL_sA, gL_sQ, gL_sD]; assumption) | simp [kd_sI, kd_sR, kd_sA, kd_sQ, kd_sL, kd_sD, ln_sI, ln_sR, ln_sA, ln_sQ, ln_sL, ln_sD, gI_sR, gI_sA, gI_sQ, gI_sL, gI_sD, gR_sI, gR_sA, gR_sQ, gR_sL, gR_sD, gA_sI, gA_sR, gA_sQ, gA_sL, gA_sD, gQ_sI, gQ_sR, gQ_sA, gQ_sL, gQ_sD, gL_sI, gL_sR, gL_sA, gL_sQ, gL_sD, kd_nO, kd_nA, *]) (by first | rfl | assumption) (by first | rfl | assumption) ?_
    refine r_aload_n (i := 0) dJ2_add_3_15 rfl rfl ?_
    refine r_getI dJ2_add_3_16 fR_J2_48 (by first | assumption | (simp only [kd_sI, kd_sR, kd_sA, kd_sQ, kd_sL, kd_sD, ln_sI, ln_sR, ln_sA, ln_sQ, ln_sL, ln_sD, gI_sR, gI_sA, gI_sQ, gI_sL, gI_sD, gR_sI, gR_sA, gR_sQ, gR_sL, gR_sD, gA_sI, gA_sR, gA_sQ, gA_sL, gA_sD, gQ_sI, gQ_sR, gQ_sA, gQ_sL, gQ_sD, gL_sI, gL_sR, gL_sA, gL_sQ, gL_sD]; assumption) | simp [kd_sI, kd_sR, kd_sA, kd_sQ, kd_sL, kd_sD, ln_sI, ln_sR, ln_sA, ln_sQ, ln_sL, ln_sD, gI_sR, gI_sA, gI_sQ, gI_sL, gI_sD, gR_sI, gR_sA, gR_sQ, gR_sL, gR_sD, gA_sI, gA_sR, gA_sQ, gA_sL, gA_sD, gQ_sI, gQ_sR, gQ_sA, gQ_sL, gQ_sD, gL_sI, gL_sR, gL_sA, gL_sQ, gL_sD, kd_nO, kd_nA, *]) (by first | assumption | exact gI_sIs | exact gR_sRs | with_reducible rfl | (simp only [kd_sI, kd_sR, kd_sA, kd_sQ, kd_sL, kd_sD, ln_sI, ln_sR, ln_sA, ln_sQ, ln_sL, ln_sD, gI_sR, gI_sA, gI_sQ, gI_sL, gI_sD, gR_sI, gR_sA, gR_sQ, gR_sL, gR_sD, gA_sI, gA_sR, gA_sQ, gA_sL, gA_sD, gQ_sI, gQ_sR, gQ_sA, gQ_sL, gQ_sD, gL_sI, gL_sR, gL_sA, gL_sQ, gL_sD]; first | done | assumption | with_reducible rfl) | rfl) ?_
    refine r_dup dJ2_add_3_19 rfl ?_
    refine r_istore_n (i := 3) dJ2_add_3_20 rfl (Nat.le_of_ble_eq_true rfl) (by simp only [lset]; rfl) ?_
    refine r_aload_n (i := 0) dJ2_add_3_21 rfl rfl ?_
    refine r_getR dJ2_add_3_22 fR_J2_9 (by first | assumption | (simp only [kd_sI, kd_sR, kd_sA, kd_sQ, kd_sL, kd_sD, ln_sI, ln_sR, ln_sA, ln_sQ, ln_sL, ln_sD, gI_sR, gI_sA, gI_sQ, gI_sL, gI_sD, gR_sI, gR_sA, gR_sQ, gR_sL, gR_sD, gA_sI, gA_sR, gA_sQ, gA_sL, gA_sD, gQ_sI, gQ_sR, gQ_sA, gQ_sL, gQ_sD, gL_sI, gL_sR, gL_sA, gL_sQ, gL_sD]; assumption) | simp [kd_sI, kd_sR, kd_sA, kd_sQ, kd_sL, kd_sD, ln_sI, ln_sR, ln_sA, ln_sQ, ln_sL, ln_sD, gI_sR, gI_sA, gI_sQ, gI_sL, gI_sD, gR_sI, gR_sA, gR_sQ, gR_sL, gR_sD, gA_sI, gA_sR, gA_sQ, gA_sL, gA_sD, gQ_sI, gQ_sR, gQ_sA, gQ_sL, gQ_sD, gL_sI, gL_sR, gL_sA, gL_sQ, gL_sD, kd_nO, kd_nA, *]) (by first | assumption | exact gI_sIs | exact gR_sRs | with_reducible rfl | (simp only [kd_sI, kd_sR, kd_sA, kd_sQ, kd_sL, kd_sD, ln_sI, ln_sR, ln_sA, ln_sQ, ln_sL, ln_sD, gI_sR, gI_sA, gI_sQ, gI_sL, gI_sD, gR_sI, gR_sA, gR_sQ, gR_sL, gR_sD, gA_sI, gA_sR, gA_sQ, gA_sL, gA_sD, gQ_sI, gQ_sR, gQ_sA, gQ_sL, gQ_sD, gL_sI, gL_sR, gL_sA, gL_sQ, gL_sD]; first | done | assumption | with_reducible rfl) | rfl) ?_
    refine r_dup dJ2_add_3_25 rfl ?_
    refine r_astore dJ2_add_3_26 (Nat.le_of_ble_eq_true rfl) (by simp only [lset]; rfl) ?_
    refine r_alen dJ2_add_3_28 (by first | (refine ⟨?_, ?_⟩ <;> simp [kd_sI, kd_sR, kd_sA, kd_sQ, kd_sL, kd_sD, ln_sI, ln_sR, ln_sA, ln_sQ, ln_sL, ln_sD, gI_sR, gI_sA, gI_sQ, gI_sL, gI_sD, gR_sI, gR_sA, gR_sQ, gR_sL, gR_sD, gA_sI, gA_sR, gA_sQ, gA_sL, gA_sD, gQ_sI, gQ_sR, gQ_sA, gQ_sL, gQ_sD, gL_sI, gL_sR, gL_sA, gL_sQ, gL_sD, *]; done) | omega) (by first | assumption | exact gI_sIs | exact gR_sRs | with_reducible rfl | (simp only [kd_sI, kd_sR, kd_sA, kd_sQ, kd_sL, kd_sD, ln_sI, ln_sR, ln_sA, ln_sQ, ln_sL, ln_sD, gI_sR, gI_sA, gI_sQ, gI_sL, gI_sD, gR_sI, gR_sA, gR_sQ, gR_sL, gR_sD, gA_sI, gA_sR, gA_sQ, gA_sL, gA_sD, gQ_sI, gQ_sR, gQ_sA, gQ_sL, gQ_sD, gL_sI, gL_sR, gL_sA, gL_sQ, gL_sD]; first | done | assumption | with_reducible rfl) | rfl) ?_
    refine r_icmp_ne (tgt := 38) dJ2_add_3_29 (by decide) (fun h29 => ?_) (fun h29 => ?_)
    · have hnc : n ≠ c := fun h => h29 (by rw [h])
      exact fin _ e _ _ hK1 (Or.inl rfl) z3 z2 z4 (by rw [z5]; omega) (by rw [z5]; omega) (by rw [z5]; omega) b5
    · have hnc : n = c := by
        rcases Nat.lt_or_ge n c with q | q
        · exact absurd h29 (nI_ne (by omega) (by omega) (by omega))
        · omega
      subst hnc
      refine r_aload_n (i := 0) dJ2_add_3_32 rfl rfl ?_
      refine r_callV (As := []) (mc' := 1) (ms' := (n + n / 2)) dJ2_add_3_33 k_J2_129 rfl (by first | assumption | (simp only [kd_sI, kd_sR, kd_sA, kd_sQ, kd_sL, kd_sD, ln_sI, ln_sR, ln_sA, ln_sQ, ln_sL, ln_sD, gI_sR, gI_sA, gI_sQ, gI_sL, gI_sD, gR_sI, gR_sA, gR_sQ, gR_sL, gR_sD, gA_sI, gA_sR, gA_sQ, gA_sL, gA_sD, gQ_sI, gQ_sR, gQ_sA, gQ_sL, gQ_sD, gL_sI, gL_sR, gL_sA, gL_sQ, gL_sD]; assumption) | simp [kd_sI, kd_sR, kd_sA, kd_sQ, kd_sL, kd_sD, ln_sI, ln_sR, ln_sA, ln_sQ, ln_sL, ln_sD, gI_sR, gI_sA, gI_sQ, gI_sL, gI_sD, gR_sI, gR_sA, gR_sQ, gR_sL, gR_sD, gA_sI, gA_sR, gA_sQ, gA_sL, gA_sD, gQ_sI, gQ_sR, gQ_sA, gQ_sL, gQ_sD, gL_sI, gL_sR, gL_sA, gL_sQ, gL_sD, kd_nO, kd_nA, *]) (T := TJ2) (N := 3) rfl (by first | assumption | omega) (by first | assumption | omega) (by first | assumption | omega) (Nat.le_of_ble_eq_true rfl) ?_
      refine s_grow (c := n) (by omega) z1 z2 z3 z4 z5 b3 (by omega) (fun i hi y hy => ?_) (fun q hq => ?_)
      · have hy2 : gQ H 4096 e i = some y := hy
        rw [b5 i hi] at hy2
        cases hy2
        exact (a4 i hi).ks hK1
      have hqL : L ≠ q := fun h => by rw [h, hK1.fr hq] at a1; cases a1
      show AW mJ2_add_3 G d Qr Qx _ _ _ 36 _ _
      refine r_astore dJ2_add_3_36 (Nat.le_of_ble_eq_true rfl) (by simp only [lset]; rfl) ?_
      refine fin _ q _ _ (((hK1.nA hq).sQ (fun h => absurd (hK1.fr hq) h)).sR (fun _ => Or.inl rfl)) (Or.inr (hK1.fr hq)) gR_sRs z2 (by rw [kd_sR, kd_sQ, kd_nA, if_pos rfl]) (by rw [ln_sR, ln_sQ, ln_nA, if_pos rfl]; omega) (by rw [ln_sR, ln_sQ, ln_nA, if_pos rfl]; omega) (by rw [ln_sR, ln_sQ, ln_nA, if_pos rfl]; omega) (fun i hi => ?_)
      rw [gQ_sR, gQ_sQs]
      have e8 := va_cpy_in (gQ (sI H 95 L (mc + nI 1)) 4096 e) (fun _ => none) 0 0 n i hi
      rw [Nat.zero_add] at e8
      rw [e8]
      exact b5 i hi
end ArrL3
