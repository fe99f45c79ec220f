set_option maxRecDepth 100000
/-! BUILDERS: parts and the whole as Strings; Integers; exceptions' constructors -/
section Mis2
variable {G : Gl} {d : Nat} {Qr : Option AV → AH → Prop} {Qx : String → Nat → AH → Prop} {H : AH}
theorem s_fromTo {f t n : Nat} {r : Option Nat} (hf : f ≤ t) (ht : t ≤ n) (hn : n < 1000) (hQ : Qr (some (vI (nI f))) H) : AMet G d 0 0 yJ17_checkFromToIndex wJ17_checkFromToIndex H [vI (nI f), vI (nI t), vI (nI n), vR r] Qr Qx := by
  refine AMet.of (M := mJ17_checkFromToIndex) (maxL := 4) (by first | rfl | decide +kernel) rfl (Nat.le_of_ble_eq_true rfl) ?_
  show AW mJ17_checkFromToIndex _ _ _ _ _ _ _ 0 [some (vI (nI f)), some (vI (nI t)), some (vI (nI n)), some (vR r)] []
  refine r_iload_n (i := 0) dJ17_checkFromToIndex_0 rfl rfl ?_
  refine r_if_lt (tgt := 14) dJ17_checkFromToIndex_1 (by decide) (fun h1 => ?_) (fun h1 => ?_)
  · exact absurd h1 (nI_pos (by omega))
  · refine r_iload_n (i := 0) dJ17_checkFromToIndex_4 rfl rfl ?_
    refine r_iload_n (i := 1) dJ17_checkFromToIndex_5 rfl rfl ?_
    refine r_icmp_gt (tgt := 14) dJ17_checkFromToIndex_6 (by decide) (fun h6 => ?_) (fun h6 => ?_)
    · exact absurd h6 (nI_nlt hf (by omega))
    · refine r_iload_n (i := 1) dJ17_checkFromToIndex_9 rfl rfl ?_
      refine r_iload_n (i := 2) dJ17_checkFromToIndex_10 rfl rfl ?_
      refine r_icmp_le (tgt := 22) dJ17_checkFromToIndex_11 (by decide) (fun h11 => ?_) (fun h11 => ?_)
      · refine r_iload_n (i := 0) dJ17_checkFromToIndex_22 rfl rfl ?_
        refine r_ireturn dJ17_checkFromToIndex_23 rfl (by first | rfl | assumption | exact vp_nar_int _ | exact pk_nc _) ?_
        exact hQ
      · exact absurd (nI_le ht (by omega)) h11
theorem s_substr6 {a n v f t : Nat} {cs : Nat → Nat} (hd : 5 ≤ d) (h : SB H a n cs v) (hf : f < t) (ht : t ≤ n) (hQ : ∀ H' q, kd H q = 0 → Ks (fun _ => False) H H' → ST H' q (t - f) (fun i => cs (f + i)) → gI H' 115 q = 0 → Qr (some (vR (some q))) H') : AMet G d 2 (t - f + 4) yJ6_substring wJ6_substring H [vR (some a), vI (nI f), vI (nI t)] Qr Qx := by
  obtain ⟨a1, a2, a3, a4, a5, a7, a8, a9⟩ := h
  obtain ⟨c, hc⟩ : ∃ c, ln H v = c := ⟨_, rfl⟩
  rw [hc] at a7 a8
  have e1 : nI t - nI f = nI (t - f) := nI_sub (by omega)
  refine AMet.of (M := mJ6_substring) (maxL := 3) (by first | rfl | decide +kernel) rfl (Nat.le_of_ble_eq_true rfl) ?_
  show AW mJ6_substring _ _ _ _ _ _ _ 0 [some (vR (some a)), some (vI (nI f)), some (vI (nI t))] []
  refine r_iload_n (i := 1) dJ6_substring_0 rfl rfl ?_
  refine r_iload_n (i := 2) dJ6_substring_1 rfl rfl ?_
  refine r_aload_n (i := 0) dJ6_substring_2 rfl rfl ?_
  refine r_getI dJ6_substring_3 fR_J6_79_J7 (by first | assumption | (simp only [kd_sI, kd_sR, kd_sA, kd_sQ, kd_sL, kd_sD, ln_sI, ln_sR, ln_sA, ln_sQ, ln_sL, ln_sD, gI_sR, gI_sA, gI_sQ, gI_sL, gI_sD, gR_sI, gR_sA, gR_sQ, gR_sL, gR_sD, gA_sI, gA_sR, gA_sQ, gA_sL, gA_sD, gQ_sI, gQ_sR, gQ_sA, gQ_sL, gQ_sD, gL_sI, gL_sR, gL_sA, gL_sQ, gL_sD]; assumption) | simp [kd_sI, kd_sR, kd_sA, kd_sQ, kd_sL, kd_sD, ln_sI, ln_sR, ln_sA, ln_sQ, ln_sL, ln_sD, gI_sR, gI_sA, gI_sQ, gI_sL, gI_sD, gR_sI, gR_sA, gR_sQ, gR_sL, gR_sD, gA_sI, gA_sR, gA_sQ, gA_sL, gA_sD, gQ_sI, gQ_sR, gQ_sA, gQ_sL, gQ_sD, gL_sI, gL_sR, gL_sA, gL_sQ, gL_sD, kd_nO, kd_nA, *]) (by first | assumption | exact gI_sIs | exact gR_sRs | with_reducible rfl | (simp only [kd_sI, kd_sR, kd_sA, kd_sQ, kd_sL, kd_sD, ln_sI, ln_sR, ln_sA, ln_sQ, ln_sL, ln_sD, gI_sR, gI_sA, gI_sQ, gI_sL, gI_sD, gR_sI, gR_sA, gR_sQ, gR_sL, gR_sD, gA_sI, gA_sR, gA_sQ, gA_sL, gA_sD, gQ_sI, gQ_sR, gQ_sA, gQ_sL, gQ_sD, gL_sI, gL_sR, gL_sA, gL_sQ, gL_sD]; first | done | assumption | with_reducible rfl) | rfl) ?_
  refine r_gs_sio dJ6_substring_6 q2616 (fun r6 => ?_)
  refine r_callS (As := [_, _, _, _]) (mc' := 0) (ms' := 0) dJ6_substring_9 k_J6_161 rfl (by first | assumption | omega) (by first | assumption | omega) (by first | assumption | omega) (Nat.le_of_ble_eq_true rfl) ?_
  refine s_fromTo (by omega) ht (by omega) ?_
  show AW mJ6_substring G d Qr Qx _ _ _ 12 _ _
  refine r_pop dJ6_substring_12 rfl ?_
  refine r_aload_n (i := 0) dJ6_substring_13 rfl rfl ?_
  refine r_callU (As := []) (mc' := 0) (ms' := 0) dJ6_substring_14 k_J6_83_J7 rfl (by first | assumption | (simp only [kd_sI, kd_sR, kd_sA, kd_sQ, kd_sL, kd_sD, ln_sI, ln_sR, ln_sA, ln_sQ, ln_sL, ln_sD, gI_sR, gI_sA, gI_sQ, gI_sL, gI_sD, gR_sI, gR_sA, gR_sQ, gR_sL, gR_sD, gA_sI, gA_sR, gA_sQ, gA_sL, gA_sD, gQ_sI, gQ_sR, gQ_sA, gQ_sL, gQ_sD, gL_sI, gL_sR, gL_sA, gL_sQ, gL_sD]; assumption) | simp [kd_sI, kd_sR, kd_sA, kd_sQ, kd_sL, kd_sD, ln_sI, ln_sR, ln_sA, ln_sQ, ln_sL, ln_sD, gI_sR, gI_sA, gI_sQ, gI_sL, gI_sD, gR_sI, gR_sA, gR_sQ, gR_sL, gR_sD, gA_sI, gA_sR, gA_sQ, gA_sL, gA_sD, gQ_sI, gQ_sR, gQ_sA, gQ_sL, gQ_sD, gL_sI, gL_sR, gL_sA, gL_sQ, gL_sD, kd_nO, kd_nA, *]) (T := TJ7) (N := 4) rfl (by first | assumption | omega) (by first | assumption | omega) (by first | assumption | omega) (Nat.le_of_ble_eq_true rfl) ?_
  refine s_sbLatin a1 a2 ?_
  show AW mJ6_substring G d Qr Qx _ _ _ 17 _ _
  refine r_if_eq (tgt := 32) dJ6_substring_17 (by decide) (fun h17 => ?_) (fun h17 => ?_)
  · exact absurd h17 (by decide)
  · refine r_aload_n (i := 0) dJ6_substring_20 rfl rfl ?_
    refine r_getR dJ6_substring_21 fR_J6_15_J7 (by first | assumption | (simp only [kd_sI, kd_sR, kd_sA, kd_sQ, kd_sL, kd_sD, ln_sI, ln_sR, ln_sA, ln_sQ, ln_sL, ln_sD, gI_sR, gI_sA, gI_sQ, gI_sL, gI_sD, gR_sI, gR_sA, gR_sQ, gR_sL, gR_sD, gA_sI, gA_sR, gA_sQ, gA_sL, gA_sD, gQ_sI, gQ_sR, gQ_sA, gQ_sL, gQ_sD, gL_sI, gL_sR, gL_sA, gL_sQ, gL_sD]; assumption) | simp [kd_sI, kd_sR, kd_sA, kd_sQ, kd_sL, kd_sD, ln_sI, ln_sR, ln_sA, ln_sQ, ln_sL, ln_sD, gI_sR, gI_sA, gI_sQ, gI_sL, gI_sD, gR_sI, gR_sA, gR_sQ, gR_sL, gR_sD, gA_sI, gA_sR, gA_sQ, gA_sL, gA_sD, gQ_sI, gQ_sR, gQ_sA, gQ_sL, gQ_sD, gL_sI, gL_sR, gL_sA, gL_sQ, gL_sD, kd_nO, kd_nA, *]) (by first | assumption | exact gI_sIs | exact gR_sRs | with_reducible rfl | (simp only [kd_sI, kd_sR, kd_sA, kd_sQ, kd_sL, kd_sD, ln_sI, ln_sR, ln_sA, ln_sQ, ln_sL, ln_sD, gI_sR, gI_sA, gI_sQ, gI_sL, gI_sD, gR_sI, gR_sA, gR_sQ, gR_sL, gR_sD, gA_sI, gA_sR, gA_sQ, gA_sL, gA_sD, gQ_sI, gQ_sR, gQ_sA, gQ_sL, gQ_sD, gL_sI, gL_sR, gL_sA, gL_sQ, gL_sD]; first | done | assumption | with_reducible rfl) | rfl) ?_
    refine r_iload_n (i := 1) dJ6_substring_24 rfl rfl ?_
    refine r_iload_n (i := 2) dJ6_substring_25 rfl rfl ?_
    refine r_iload_n (i := 1) dJ6_substring_26 rfl rfl ?_
    refine r_isub dJ6_substring_27 ?_
    rw [e1]
    refine r_callS (As := [_, _, _]) (mc' := 2) (ms' := (t - f + 4)) dJ6_substring_28 k_J6_304 rfl (by first | assumption | omega) (by first | assumption | omega) (by first | assumption | omega) (Nat.le_of_ble_eq_true rfl) ?_
    refine s_newString (by omega) a5 hc a7 (by omega) (by omega) (by omega) (fun H' q h1 h2 h3 h4 => ?_)
    show AW mJ6_substring G d Qr Qx _ _ _ 31 _ _
    refine r_areturn dJ6_substring_31 rfl (by first | exact Or.inl ⟨_, rfl⟩ | exact Or.inr ⟨_, rfl⟩) ?_
    exact hQ H' q h1 h2 h3 h4
theorem s_substr {a n v f t : Nat} {cs : Nat → Nat} (hd : 6 ≤ d) (h : SB H a n cs v) (hf : f < t) (ht : t ≤ n) (hQ : ∀ H' q, kd H q = 0 → Ks (fun _ => False) H H' → ST H' q (t - f) (fun i => cs (f + i)) → gI H' 115 q = 0 → Qr (some (vR (some q))) H') : AMet G d 2 (t - f + 4) yJ7_substring wJ7_substring H [vR (some a), vI (nI f), vI (nI t)] Qr Qx := by
  have a1 := h.1
  refine AMet.of (M := mJ7_substring) (maxL := 3) (by first | rfl | decide +kernel) rfl (Nat.le_of_ble_eq_true rfl) ?_
  show AW mJ7_substring _ _ _ _ _ _ _ 0 [some (vR (some a)), some (vI (nI f)), some (vI (nI t))] []
  refine r_aload_n (i := 0) dJ7_substring_0 rfl rfl ?_
  refine r_iload_n (i := 1) dJ7_substring_1 rfl rfl ?_
  refine r_iload_n (i := 2) dJ7_substring_2 rfl rfl ?_
  refine r_callSU (As := [_, _]) (mc' := 2) (ms' := (t - f + 4)) dJ7_substring_3 k_J7_252 rfl (by first | assumption | (simp only [kd_sI, kd_sR, kd_sA, kd_sQ, kd_sL, kd_sD, ln_sI, ln_sR, ln_sA, ln_sQ, ln_sL, ln_sD, gI_sR, gI_sA, gI_sQ, gI_sL, gI_sD, gR_sI, gR_sA, gR_sQ, gR_sL, gR_sD, gA_sI, gA_sR, gA_sQ, gA_sL, gA_sD, gQ_sI, gQ_sR, gQ_sA, gQ_sL, gQ_sD, gL_sI, gL_sR, gL_sA, gL_sQ, gL_sD]; assumption) | simp [kd_sI, kd_sR, kd_sA, kd_sQ, kd_sL, kd_sD, ln_sI, ln_sR, ln_sA, ln_sQ, ln_sL, ln_sD, gI_sR, gI_sA, gI_sQ, gI_sL, gI_sD, gR_sI, gR_sA, gR_sQ, gR_sL, gR_sD, gA_sI, gA_sR, gA_sQ, gA_sL, gA_sD, gQ_sI, gQ_sR, gQ_sA, gQ_sL, gQ_sD, gL_sI, gL_sR, gL_sA, gL_sQ, gL_sD, kd_nO, kd_nA, *]) (T := TJ7) (N := 4) rfl (by first | assumption | omega) (by first | assumption | omega) (by first | assumption | omega) (Nat.le_of_ble_eq_true rfl) ?_
  refine s_substr6 (by omega) h hf ht (fun H' q h1 h2 h3 h4 => ?_)
  show AW mJ7_substring G d Qr Qx _ _ _ 6 _ _
  refine r_areturn dJ7_substring_6 rfl (by first | exact Or.inl ⟨_, rfl⟩ | exact Or.inr ⟨_, rfl⟩) ?_
  exact hQ H' q h1 h2 h3 h4
theorem s_subSeq6 {a n v f t : Nat} {cs : Nat → Nat} (hd : 7 ≤ d) (h : SB H a n cs v) (hf : f < t) (ht : t ≤ n) (hQ : ∀ H' q, kd H q = 0 → Ks (fun _ => False) H H' → ST H' q (t - f) (fun i => cs (f + i)) → gI H' 115 q = 0 → Qr (some (vR (some q))) H') : AMet G d 2 (t - f + 4) yJ6_subSequence wJ6_subSequence H [vR (some a), vI (nI f), vI (nI t)] Qr Qx := by
  have a1 := h.1
  refine AMet.of (M := mJ6_subSequence) (maxL := 3) (by first | rfl | decide +kernel) rfl (Nat.le_of_ble_eq_true rfl) ?_
  show AW mJ6_subSequence _ _ _ _ _ _ _ 0 [some (vR (some a)), some (vI (nI f)), some (vI (nI t))] []
  refine r_aload_n (i := 0) dJ6_subSequence_0 rfl rfl ?_
  refine r_iload_n (i := 1) dJ6_subSequence_1 rfl rfl ?_
  refine r_iload_n (i := 2) dJ6_subSequence_2 rfl rfl ?_
  refine r_callU (As := [_, _]) (mc' := 2) (ms' := (t - f + 4)) dJ6_subSequence_3 k_J6_300_J7 rfl (by first | assumption | (simp only [kd_sI, kd_sR, kd_sA, kd_sQ, kd_sL, kd_sD, ln_sI, ln_sR, ln_sA, ln_sQ, ln_sL, ln_sD, gI_sR, gI_sA, gI_sQ, gI_sL, gI_sD, gR_sI, gR_sA, gR_sQ, gR_sL, gR_sD, gA_sI, gA_sR, gA_sQ, gA_sL, gA_sD, gQ_sI, gQ_sR, gQ_sA, gQ_sL, gQ_sD, gL_sI, gL_sR, gL_sA, gL_sQ, gL_sD]; assumption) | simp [kd_sI, kd_sR, kd_sA, kd_sQ, kd_sL, kd_sD, ln_sI, ln_sR, ln_sA, ln_sQ, ln_sL, ln_sD, gI_sR, gI_sA, gI_sQ, gI_sL, gI_sD, gR_sI, gR_sA, gR_sQ, gR_sL, gR_sD, gA_sI, gA_sR, gA_sQ, gA_sL, gA_sD, gQ_sI, gQ_sR, gQ_sA, gQ_sL, gQ_sD, gL_sI, gL_sR, gL_sA, gL_sQ, gL_sD, kd_nO, kd_nA, *]) (T := TJ7) (N := 4) rfl (by first | assumption | omega) (by first | assumption | omega) (by first | assumption | omega) (Nat.le_of_ble_eq_true rfl) ?_
  refine s_substr (by omega) h hf ht (fun H' q h1 h2 h3 h4 => ?_)
  show AW mJ6_subSequence G d Qr Qx _ _ _ 6 _ _
  refine r_areturn dJ6_subSequence_6 rfl (by first | exact Or.inl ⟨_, rfl⟩ | exact Or.inr ⟨_, rfl⟩) ?_
  exact hQ H' q h1 h2 h3 h4
theorem s_subSeq {a n v f t : Nat} {cs : Nat → Nat} (hd : 8 ≤ d) (h : SB H a n cs v) (hf : f < t) (ht : t ≤ n) (hQ : ∀ H' q, kd H q = 0 → Ks (fun _ => False) H H' → ST H' q (t - f) (fun i => cs (f + i)) → gI H' 115 q = 0 → Qr (some (vR (some q))) H') : AMet G d 2 (t - f + 4) yJ7_subSequence wJ7_subSequence H [vR (some a), vI (nI f), vI (nI t)] Qr Qx := by
  have a1 := h.1
  refine AMet.of (M := mJ7_subSequence) (maxL := 3) (by first | rfl | decide +kernel) rfl (Nat.le_of_ble_eq_true rfl) ?_
  show AW mJ7_subSequence _ _ _ _ _ _ _ 0 [some (vR (some a)), some (vI (nI f)), some (vI (nI t))] []
  refine r_aload_n (i := 0) dJ7_subSequence_0 rfl rfl ?_
  refine r_iload_n (i := 1) dJ7_subSequence_1 rfl rfl ?_
  refine r_iload_n (i := 2) dJ7_subSequence_2 rfl rfl ?_
  refine r_callSU (As := [_, _]) (mc' := 2) (ms' := (t - f + 4)) dJ7_subSequence_3 k_J7_256 rfl (by first | assumption | (simp only [kd_sI, kd_sR, kd_sA, kd_sQ, kd_sL, kd_sD, ln_sI, ln_sR, ln_sA, ln_sQ, ln_sL, ln_sD, gI_sR, gI_sA, gI_sQ, gI_sL, gI_sD, gR_sI, gR_sA, gR_sQ, gR_sL, gR_sD, gA_sI, gA_sR, gA_sQ, gA_sL, gA_sD, gQ_sI, gQ_sR, gQ_sA, gQ_sL, gQ_sD, gL_sI, gL_sR, gL_sA, gL_sQ, gL_sD]; assumption) | simp [kd_sI, kd_sR, kd_sA, kd_sQ, kd_sL, kd_sD, ln_sI, ln_sR, ln_sA, ln_sQ, ln_sL, ln_sD, gI_sR, gI_sA, gI_sQ, gI_sL, gI_sD, gR_sI, gR_sA, gR_sQ, gR_sL, gR_sD, gA_sI, gA_sR, gA_sQ, gA_sL, gA_sD, gQ_sI, gQ_sR, gQ_sA, gQ_sL, gQ_sD, gL_sI, gL_sR, gL_sA, gL_sQ, gL_sD, kd_nO, kd_nA, *]) (T := TJ7) (N := 4) rfl (by first | assumption | omega) (by first | assumption | omega) (by first | assumption | omega) (Nat.le_of_ble_eq_true rfl) ?_
  refine s_subSeq6 (by omega) h hf ht (fun H' q h1 h2 h3 h4 => ?_)
  show AW mJ7_subSequence G d Qr Qx _ _ _ 6 _ _
  refine r_areturn dJ7_subSequence_6 rfl (by first | exact Or.inl ⟨_, rfl⟩ | exact Or.inr ⟨_, rfl⟩) ?_
  exact hQ H' q h1 h2 h3 h4
theorem s_sbGetV {a v : Nat} (h1 : kd H a = 23) (h2 : gR H 109 a = some v) (hQ : Qr (some (vR (some v))) H) : AMet G d 0 0 yJ6_getValue wJ6_getValue H [vR (some a)] Qr Qx := by
  refine AMet.of (M := mJ6_getValue) (maxL := 1) (by first | rfl | decide +kernel) rfl (Nat.le_of_ble_eq_true rfl) ?_
  show AW mJ6_getValue _ _ _ _ _ _ _ 0 [some (vR (some a))] []
  refine r_aload_n (i := 0) dJ6_getValue_0 rfl rfl ?_
  refine r_getR dJ6_getValue_1 fR_J6_15_J7 (by first | assumption | (simp only [kd_sI, kd_sR, kd_sA, kd_sQ, kd_sL, kd_sD, ln_sI, ln_sR, ln_sA, ln_sQ, ln_sL, ln_sD, gI_sR, gI_sA, gI_sQ, gI_sL, gI_sD, gR_sI, gR_sA, gR_sQ, gR_sL, gR_sD, gA_sI, gA_sR, gA_sQ, gA_sL, gA_sD, gQ_sI, gQ_sR, gQ_sA, gQ_sL, gQ_sD, gL_sI, gL_sR, gL_sA, gL_sQ, gL_sD]; assumption) | simp [kd_sI, kd_sR, kd_sA, kd_sQ, kd_sL, kd_sD, ln_sI, ln_sR, ln_sA, ln_sQ, ln_sL, ln_sD, gI_sR, gI_sA, gI_sQ, gI_sL, gI_sD, gR_sI, gR_sA, gR_sQ, gR_sL, gR_sD, gA_sI, gA_sR, gA_sQ, gA_sL, gA_sD, gQ_sI, gQ_sR, gQ_sA, gQ_sL, gQ_sD, gL_sI, gL_sR, gL_sA, gL_sQ, gL_sD, kd_nO, kd_nA, *]) (by first | assumption | exact gI_sIs | exact gR_sRs | with_reducible rfl | (simp only [kd_sI, kd_sR, kd_sA, kd_sQ, kd_sL, kd_sD, ln_sI, ln_sR, ln_sA, ln_sQ, ln_sL, ln_sD, gI_sR, gI_sA, gI_sQ, gI_sL, gI_sD, gR_sI, gR_sA, gR_sQ, gR_sL, gR_sD, gA_sI, gA_sR, gA_sQ, gA_sL, gA_sD, gQ_sI, gQ_sR, gQ_sA, gQ_sL, gQ_sD, gL_sI, gL_sR, gL_sA, gL_sQ, gL_sD]; first | done | assumption | with_reducible rfl) | rfl) ?_
  refine r_areturn dJ6_getValue_4 rfl (by first | exact Or.inl ⟨_, rfl⟩ | exact Or.inr ⟨_, rfl⟩) ?_
  exact hQ
theorem s_strInit2 {b a n v : Nat} {cs : Nat → Nat} (hd : 4 ≤ d) (hk : kd H b = 24) (h : SB H a n cs v) (hz1 : gI H 115 b = 0) (hz2 : gI H 116 b = 0) (hQ : ∀ H', Ks (fun x => x = b) H H' → ST H' b n cs → gI H' 115 b = 0 → Qr none H') : AMet G d 1 n yJ8_init_2 wJ8_init_2 H [vR (some b), vR (some a), vR none] Qr Qx := by
  obtain ⟨a1, a2, a3, a4, a5, a7, a8, a9⟩ := h
  obtain ⟨c, hc⟩ : ∃ c, ln H v = c := ⟨_, rfl⟩
  rw [hc] at a7 a8
  have hva : ¬ v = b := fun e => by rw [e] at a5; exact absurd (a5.1.symm.trans hk) (by decide)
  refine AMet.of (M := mJ8_init_2) (maxL := 5) (by first | rfl | decide +kernel) rfl (Nat.le_of_ble_eq_true rfl) ?_
  show AW mJ8_init_2 _ _ _ _ _ _ _ 0 [some (vR (some b)), some (vR (some a)), some (vR none), none, none] []
  refine r_aload_n (i := 0) dJ8_init_2_0 rfl rfl ?_
  refine r_objInit dJ8_init_2_1 q358 (by with_reducible rfl) (by first | assumption | omega) (Nat.le_of_ble_eq_true rfl) ?_
  refine r_aload_n (i := 1) dJ8_init_2_4 rfl rfl ?_
  refine r_callU (As := []) (mc' := 0) (ms' := 0) dJ8_init_2_5 k_J8_552_J7 rfl (by first | assumption | (simp only [kd_sI, kd_sR, kd_sA, kd_sQ, kd_sL, kd_sD, ln_sI, ln_sR, ln_sA, ln_sQ, ln_sL, ln_sD, gI_sR, gI_sA, gI_sQ, gI_sL, gI_sD, gR_sI, gR_sA, gR_sQ, gR_sL, gR_sD, gA_sI, gA_sR, gA_sQ, gA_sL, gA_sD, gQ_sI, gQ_sR, gQ_sA, gQ_sL, gQ_sD, gL_sI, gL_sR, gL_sA, gL_sQ, gL_sD]; assumption) | simp [kd_sI, kd_sR, kd_sA, kd_sQ, kd_sL, kd_sD, ln_sI, ln_sR, ln_sA, ln_sQ, ln_sL, ln_sD, gI_sR, gI_sA, gI_sQ, gI_sL, gI_sD, gR_sI, gR_sA, gR_sQ, gR_sL, gR_sD, gA_sI, gA_sR, gA_sQ, gA_sL, gA_sD, gQ_sI, gQ_sR, gQ_sA, gQ_sL, gQ_sD, gL_sI, gL_sR, gL_sA, gL_sQ, gL_sD, kd_nO, kd_nA, *]) (T := TJ7) (N := 4) rfl (by first | assumption | omega) (by first | assumption | omega) (by first | assumption | omega) (Nat.le_of_ble_eq_true rfl) ?_
  refine s_sbGetV a1 a4 ?_
  show AW mJ8_init_2 G d Qr Qx _ _ _ 8 _ _
  refine r_astore_n (i := 3) dJ8_init_2_8 rfl (Nat.le_of_ble_eq_true rfl) (by simp only [lset]; rfl) ?_
  refine r_aload_n (i := 1) dJ8_init_2_9 rfl rfl ?_
  refine r_callU (As := []) (mc' := 0) (ms' := 0) dJ8_init_2_10 k_J8_549_J7 rfl (by first | assumption | (simp only [kd_sI, kd_sR, kd_sA, kd_sQ, kd_sL, kd_sD, ln_sI, ln_sR, ln_sA, ln_sQ, ln_sL, ln_sD, gI_sR, gI_sA, gI_sQ, gI_sL, gI_sD, gR_sI, gR_sA, gR_sQ, gR_sL, gR_sD, gA_sI, gA_sR, gA_sQ, gA_sL, gA_sD, gQ_sI, gQ_sR, gQ_sA, gQ_sL, gQ_sD, gL_sI, gL_sR, gL_sA, gL_sQ, gL_sD]; assumption) | simp [kd_sI, kd_sR, kd_sA, kd_sQ, kd_sL, kd_sD, ln_sI, ln_sR, ln_sA, ln_sQ, ln_sL, ln_sD, gI_sR, gI_sA, gI_sQ, gI_sL, gI_sD, gR_sI, gR_sA, gR_sQ, gR_sL, gR_sD, gA_sI, gA_sR, gA_sQ, gA_sL, gA_sD, gQ_sI, gQ_sR, gQ_sA, gQ_sL, gQ_sD, gL_sI, gL_sR, gL_sA, gL_sQ, gL_sD, kd_nO, kd_nA, *]) (T := TJ7) (N := 4) rfl (by first | assumption | omega) (by first | assumption | omega) (by first | assumption | omega) (Nat.le_of_ble_eq_true rfl) ?_
  refine s_sbLen (by omega) a1 a3 ?_
  show AW mJ8_init_2 G d Qr Qx _ _ _ 13 _ _
  refine r_istore dJ8_init_2_13 (Nat.le_of_ble_eq_true rfl) (by simp only [lset]; rfl) ?_
  refine r_aload_n (i := 1) dJ8_init_2_15 rfl rfl ?_
  refine r_callU (As := []) (mc' := 0) (ms' := 0) dJ8_init_2_16 k_J8_1047_J7 rfl (by first | assumption | (simp only [kd_sI, kd_sR, kd_sA, kd_sQ, kd_sL, kd_sD, ln_sI, ln_sR, ln_sA, ln_sQ, ln_sL, ln_sD, gI_sR, gI_sA, gI_sQ, gI_sL, gI_sD, gR_sI, gR_sA, gR_sQ, gR_sL, gR_sD, gA_sI, gA_sR, gA_sQ, gA_sL, gA_sD, gQ_sI, gQ_sR, gQ_sA, gQ_sL, gQ_sD, gL_sI, gL_sR, gL_sA, gL_sQ, gL_sD]; assumption) | simp [kd_sI, kd_sR, kd_sA, kd_sQ, kd_sL, kd_sD, ln_sI, ln_sR, ln_sA, ln_sQ, ln_sL, ln_sD, gI_sR, gI_sA, gI_sQ, gI_sL, gI_sD, gR_sI, gR_sA, gR_sQ, gR_sL, gR_sD, gA_sI, gA_sR, gA_sQ, gA_sL, gA_sD, gQ_sI, gQ_sR, gQ_sA, gQ_sL, gQ_sD, gL_sI, gL_sR, gL_sA, gL_sQ, gL_sD, kd_nO, kd_nA, *]) (T := TJ7) (N := 4) rfl (by first | assumption | omega) (by first | assumption | omega) (by first | assumption | omega) (Nat.le_of_ble_eq_true rfl) ?_
  refine s_sbLatin a1 a2 ?_
  show AW mJ8_init_2 G d Qr Qx _ _ _ 19 _ _
  refine r_if_eq (tgt := 41) dJ8_init_2_19 (by decide) (fun h19 => ?_) (fun h19 => ?_)
  · exact absurd h19 (by decide)
  · have hK1 : Ks (fun x => x = b) H (sI H 114 b (nI 0)) := Ks.rf.sI (fun _ => rfl)
    have hB1 : BA (sI H 114 b (nI 0)) 2109 v n cs := a5
    refine r_aload_n (i := 0) dJ8_init_2_22 rfl rfl ?_
    refine r_iconst (v := nI 0) dJ8_init_2_23 (by decide) ?_
    refine r_putI dJ8_init_2_24 fG_J8_15 (fun _ => by first | rfl | contradiction) (by first | assumption | (simp only [kd_sI, kd_sR, kd_sA, kd_sQ, kd_sL, kd_sD, ln_sI, ln_sR, ln_sA, ln_sQ, ln_sL, ln_sD, gI_sR, gI_sA, gI_sQ, gI_sL, gI_sD, gR_sI, gR_sA, gR_sQ, gR_sL, gR_sD, gA_sI, gA_sR, gA_sQ, gA_sL, gA_sD, gQ_sI, gQ_sR, gQ_sA, gQ_sL, gQ_sD, gL_sI, gL_sR, gL_sA, gL_sQ, gL_sD]; assumption) | simp [kd_sI, kd_sR, kd_sA, kd_sQ, kd_sL, kd_sD, ln_sI, ln_sR, ln_sA, ln_sQ, ln_sL, ln_sD, gI_sR, gI_sA, gI_sQ, gI_sL, gI_sD, gR_sI, gR_sA, gR_sQ, gR_sL, gR_sD, gA_sI, gA_sR, gA_sQ, gA_sL, gA_sD, gQ_sI, gQ_sR, gQ_sA, gQ_sL, gQ_sD, gL_sI, gL_sR, gL_sA, gL_sQ, gL_sD, kd_nO, kd_nA, *]) (by first | rfl | assumption) (by first | rfl | assumption) ?_
    refine r_aload_n (i := 0) dJ8_init_2_27 rfl rfl ?_
    refine r_aload_n (i := 3) dJ8_init_2_28 rfl rfl ?_
    refine r_iconst (v := nI 0) dJ8_init_2_29 (by decide) ?_
    refine r_iload dJ8_init_2_30 rfl ?_
    refine r_callS (As := [_, _, _]) (mc' := 1) (ms' := (n - 0)) dJ8_init_2_32 k_J8_54 rfl (by first | assumption | omega) (by first | assumption | omega) (by first | assumption | omega) (Nat.le_of_ble_eq_true rfl) ?_
    refine s_copyR (by omega) hB1 hc a7 (by omega) (Nat.zero_le _) (Nat.le_refl _) (fun H2 q hq hK2 hB2 hl2 => ?_)
    have e9 := hK2.at (a := b) (by show kd H b ≠ 0; rw [hk]; decide) (fun h => h)
    have kb : kd H2 b = 24 := by rw [at_kd e9]; exact hk
    show AW mJ8_init_2 G d Qr Qx _ _ _ 35 _ _
    refine r_putR dJ8_init_2_35 fG_J8_9 (fun _ => by first | rfl | contradiction) (by first | assumption | (simp only [kd_sI, kd_sR, kd_sA, kd_sQ, kd_sL, kd_sD, ln_sI, ln_sR, ln_sA, ln_sQ, ln_sL, ln_sD, gI_sR, gI_sA, gI_sQ, gI_sL, gI_sD, gR_sI, gR_sA, gR_sQ, gR_sL, gR_sD, gA_sI, gA_sR, gA_sQ, gA_sL, gA_sD, gQ_sI, gQ_sR, gQ_sA, gQ_sL, gQ_sD, gL_sI, gL_sR, gL_sA, gL_sQ, gL_sD]; assumption) | simp [kd_sI, kd_sR, kd_sA, kd_sQ, kd_sL, kd_sD, ln_sI, ln_sR, ln_sA, ln_sQ, ln_sL, ln_sD, gI_sR, gI_sA, gI_sQ, gI_sL, gI_sD, gR_sI, gR_sA, gR_sQ, gR_sL, gR_sD, gA_sI, gA_sR, gA_sQ, gA_sL, gA_sD, gQ_sI, gQ_sR, gQ_sA, gQ_sL, gQ_sD, gL_sI, gL_sR, gL_sA, gL_sQ, gL_sD, kd_nO, kd_nA, *]) (by first | exact Or.inl ⟨_, rfl⟩ | exact Or.inr ⟨_, rfl⟩) ?_
    refine r_goto (tgt := 97) dJ8_init_2_38 (by decide) ?_
    refine r_return dJ8_init_2_97 rfl ?_
    have hK3 : Ks (fun x => x = b) H (sR H2 113 b (some q)) := (hK1.tr (hK2.mono (fun _ _ f => f.elim))).sR (fun _ => rfl)
    have y1 : gI (sR H2 113 b (some q)) 115 b = 0 := by
      show gI H2 115 b = 0
      rw [at_gI e9, gI_sIn (by decide)]
      exact hz1
    have y2 : gI (sR H2 113 b (some q)) 116 b = 0 := by
      show gI H2 116 b = 0
      rw [at_gI e9, gI_sIn (by decide)]
      exact hz2
    have y3 : gI (sR H2 113 b (some q)) 114 b = nI 0 := by
      show gI H2 114 b = nI 0
      rw [at_gI e9]
      exact gI_sIs
    refine hQ _ hK3 ⟨kb, y3, by omega, ⟨q, gR_sRs, ⟨hB2.1, fun i hi => ?_⟩, hl2⟩, Or.inr ⟨y1, y2⟩⟩ y1
    have g := hB2.2 i hi
    rw [show (fun j => cs (0 + j)) i = cs i by show cs (0 + i) = cs i; rw [Nat.zero_add]] at g
    exact g
theorem s_strInit1 {b a n v : Nat} {cs : Nat → Nat} (hd : 5 ≤ d) (hk : kd H b = 24) (h : SB H a n cs v) (hz1 : gI H 115 b = 0) (hz2 : gI H 116 b = 0) (hQ : ∀ H', Ks (fun x => x = b) H H' → ST H' b n cs → gI H' 115 b = 0 → Qr none H') : AMet G d 1 n yJ8_init wJ8_init H [vR (some b), vR (some a)] Qr Qx := by
  refine AMet.of (M := mJ8_init) (maxL := 2) (by first | rfl | decide +kernel) rfl (Nat.le_of_ble_eq_true rfl) ?_
  show AW mJ8_init _ _ _ _ _ _ _ 0 [some (vR (some b)), some (vR (some a))] []
  refine r_aload_n (i := 0) dJ8_init_0 rfl rfl ?_
  refine r_aload_n (i := 1) dJ8_init_1 rfl rfl ?_
  refine r_null dJ8_init_2 ?_
  refine r_callI (As := [_, _]) (mc' := 1) (ms' := n) dJ8_init_3 k_J8_489 rfl (by first | assumption | omega) (by first | assumption | omega) (by first | assumption | omega) (Nat.le_of_ble_eq_true rfl) ?_
  refine s_strInit2 (by omega) hk h hz1 hz2 (fun H' h1 h2 h3 => ?_)
  show AW mJ8_init G d Qr Qx _ _ _ 6 _ _
  refine r_return dJ8_init_6 rfl ?_
  exact hQ H' h1 h2 h3
/-- a builder's codes as a new String -/
theorem s_sbToString {a n v : Nat} {cs : Nat → Nat} (hd : 6 ≤ d) (h : SB H a n cs v) (hQ : ∀ H' q, kd H q = 0 → Ks (fun _ => False) H H' → ST H' q n cs → gI H' 115 q = 0 → Qr (some (vR (some q))) H') : AMet G d 2 (n + 4) yJ7_toString wJ7_toString H [vR (some a)] Qr Qx := by
  have a1 := h.1
  have a5 := h.2.2.2.2.1.1
  refine AMet.of (M := mJ7_toString) (maxL := 1) (by first | rfl | decide +kernel) rfl (Nat.le_of_ble_eq_true rfl) ?_
  show AW mJ7_toString _ _ _ _ _ _ _ 0 [some (vR (some a))] []
  refine r_new dJ7_toString_0 cT_J8 q350 q351 q93 (by decide +kernel) (by first | assumption | omega) (by first | assumption | omega) (fun q0 hq0 => ?_)
  refine r_dup dJ7_toString_3 rfl ?_
  refine r_aload_n (i := 0) dJ7_toString_4 rfl rfl ?_
  have hne1 : ¬ a = q0 := fun h => by rw [h, hq0] at a1; cases a1
  have hne2 : ¬ v = q0 := fun h => by rw [h, hq0] at a5; cases a5
  refine AW.name (fun H1 hH1 => ?_)
  have hK1 : Ks (fun x => x = q0) H H1 := by rw [hH1]; exact Ks.rf.nO hq0
  have h1 : SB H1 a n cs v := h.ks hK1 hne1 hne2
  have k7 : kd H1 q0 = 24 := by rw [hH1, kd_nO, if_pos rfl]
  have z1 : gI H1 115 q0 = 0 := by rw [hH1, gI_nO, if_pos rfl]
  have z2 : gI H1 116 q0 = 0 := by rw [hH1, gI_nO, if_pos rfl]
  refine r_callI (As := [_]) (mc' := 1) (ms' := n) dJ7_toString_5 k_J7_137 rfl (by first | assumption | omega) (by first | assumption | omega) (by first | assumption | omega) (Nat.le_of_ble_eq_true rfl) ?_
  refine s_strInit1 (by omega) k7 h1 z1 z2 (fun H' g1 g2 g3 => ?_)
  show AW mJ7_toString G d Qr Qx _ _ _ 8 _ _
  refine r_areturn dJ7_toString_8 rfl (by first | exact Or.inl ⟨_, rfl⟩ | exact Or.inr ⟨_, rfl⟩) ?_
  exact hQ H' q0 hq0 ((hK1.tr g1).mono (fun b hb e => absurd hq0 (by rw [← e]; exact hb))) g2 g3
/-! Integers -/
/-- a is an Integer of value v -/
def IntO (G : Gl) (H : AH) (a : Nat) (v : Int32) : Prop := (∃ j, j < 256 ∧ a = gSt G (j + 10) ∧ vb_c j = v) ∨ (kd H a = 26 ∧ gI H 121 a = v)
theorem IntO.ks {H' : AH} {S : Nat → Prop} {a : Nat} {v : Int32} (h : IntO G H a v) (hk : Ks S H H') (h1 : kd H a = 26 → ¬ S a) : IntO G H' a v := by
  rcases h with h | ⟨h2, h3⟩
  · exact Or.inl h
  · have e1 := hk.at (a := a) (by rw [h2]; decide) (h1 h2)
    exact Or.inr ⟨by rw [at_kd e1]; exact h2, by rw [at_gI e1]; exact h3⟩
theorem IntO.obj {a : Nat} {v : Int32} (h : IntO G H a v) : isObj G H a := by
  rcases h with ⟨j, h1, h2, -⟩ | ⟨h2, h3⟩
  · exact Or.inr ⟨j, h1, h2⟩
  · exact Or.inl (by rw [h2]; decide)
theorem vb_c_eq : ∀ n, n < 128 → vb_c (n + 128) = nI n := by decide
theorem s_intInit {a : Nat} {v : Int32} (hd : 2 ≤ d) (hk : kd H a = 26) (hQ : Qr none (sI H 121 a v)) : AMet G d 0 0 yJ19_init wJ19_init H [vR (some a), vI v] Qr Qx := by
  refine AMet.of (M := mJ19_init) (maxL := 2) (by first | rfl | decide +kernel) rfl (Nat.le_of_ble_eq_true rfl) ?_
  show AW mJ19_init _ _ _ _ _ _ _ 0 [some (vR (some a)), some (vI v)] []
  refine r_aload_n (i := 0) dJ19_init_0 rfl rfl ?_
  refine r_callI (As := []) (mc' := 0) (ms' := 0) dJ19_init_1 k_J19_202 rfl (by first | assumption | omega) (by first | assumption | omega) (by first | assumption | omega) (Nat.le_of_ble_eq_true rfl) ?_
  refine s_nuInit (by omega) ?_
  show AW mJ19_init G d Qr Qx _ _ _ 4 _ _
  refine r_aload_n (i := 0) dJ19_init_4 rfl rfl ?_
  refine r_iload_n (i := 1) dJ19_init_5 rfl rfl ?_
  refine r_putI dJ19_init_6 fG_J19_205 (fun _ => by first | rfl | contradiction) (by first | assumption | (simp only [kd_sI, kd_sR, kd_sA, kd_sQ, kd_sL, kd_sD, ln_sI, ln_sR, ln_sA, ln_sQ, ln_sL, ln_sD, gI_sR, gI_sA, gI_sQ, gI_sL, gI_sD, gR_sI, gR_sA, gR_sQ, gR_sL, gR_sD, gA_sI, gA_sR, gA_sQ, gA_sL, gA_sD, gQ_sI, gQ_sR, gQ_sA, gQ_sL, gQ_sD, gL_sI, gL_sR, gL_sA, gL_sQ, gL_sD]; assumption) | simp [kd_sI, kd_sR, kd_sA, kd_sQ, kd_sL, kd_sD, ln_sI, ln_sR, ln_sA, ln_sQ, ln_sL, ln_sD, gI_sR, gI_sA, gI_sQ, gI_sL, gI_sD, gR_sI, gR_sA, gR_sQ, gR_sL, gR_sD, gA_sI, gA_sR, gA_sQ, gA_sL, gA_sD, gQ_sI, gQ_sR, gQ_sA, gQ_sL, gQ_sD, gL_sI, gL_sR, gL_sA, gL_sQ, gL_sD, kd_nO, kd_nA, *]) (by first | rfl | assumption) (by first | rfl | assumption) ?_
  refine r_return dJ19_init_9 rfl ?_
  exact hQ
theorem s_valueOf {n : Nat} (hd : 3 ≤ d) (hn : n < 1000000) (hQ : ∀ H' q, Ks (fun _ => False) H H' → IntO G H' q (nI n) → Qr (some (vR (some q))) H') : AMet G d 1 1 yJ19_valueOf wJ19_valueOf H [vI (nI n)] Qr Qx := by
  have hlow : ¬ nI n < -128 := by
    intro h
    have h1 := Int32.lt_iff_toInt_lt.mp h
    rw [nI_toInt (by omega)] at h1
    have h2 : (-128 : Int32).toInt = -128 := by decide
    omega
  refine AMet.of (M := mJ19_valueOf) (maxL := 1) (by first | rfl | decide +kernel) rfl (Nat.le_of_ble_eq_true rfl) ?_
  show AW mJ19_valueOf _ _ _ _ _ _ _ 0 [some (vI (nI n))] []
  have mk : AW mJ19_valueOf G d Qr Qx 1 1 H 23 [some (vI (nI n))] [] := by
    refine r_new dJ19_valueOf_23 cT_J19 q776 q1181 q105 (by decide +kernel) (by first | assumption | omega) (by first | assumption | omega) (fun q23 hq23 => ?_)
    refine r_dup dJ19_valueOf_26 rfl ?_
    refine r_iload_n (i := 0) dJ19_valueOf_27 rfl rfl ?_
    have k0 : kd (nO H q23 26) q23 = 26 := by rw [kd_nO, if_pos rfl]
    refine r_callI (As := [_]) (mc' := 0) (ms' := 0) dJ19_valueOf_28 k_J19_199 rfl (by first | assumption | omega) (by first | assumption | omega) (by first | assumption | omega) (Nat.le_of_ble_eq_true rfl) ?_
    refine s_intInit (by omega) k0 ?_
    show AW mJ19_valueOf G d Qr Qx _ _ _ 31 _ _
    refine r_areturn dJ19_valueOf_31 rfl (by first | exact Or.inl ⟨_, rfl⟩ | exact Or.inr ⟨_, rfl⟩) ?_
    exact hQ _ q23 ((Ks.rf.nO hq23).sI (fun h => absurd hq23 h)) (Or.inr ⟨k0, gI_sIs⟩)
  refine r_iload_n (i := 0) dJ19_valueOf_0 rfl rfl ?_
  refine r_bipush (v := -128) dJ19_valueOf_1 (by decide) ?_
  refine r_icmp_lt (tgt := 23) dJ19_valueOf_3 (by decide) (fun h3 => ?_) (fun h3 => ?_)
  · exact absurd h3 hlow
  · refine r_iload_n (i := 0) dJ19_valueOf_6 rfl rfl ?_
    refine r_gs_high dJ19_valueOf_7 (Or.inl q1177) ?_
    refine r_icmp_gt (tgt := 23) dJ19_valueOf_10 (by decide) (fun h10 => ?_) (fun h10 => ?_)
    · exact mk
    · have hn2 : n < 128 := by
        rcases Nat.lt_or_ge n 128 with q | q
        · exact q
        · exact absurd (nI_lt (a := 127) (b := n) (by omega) (by omega)) h10
      refine r_gs_cache dJ19_valueOf_13 (Or.inl q1179) ?_
      refine r_iload_n (i := 0) dJ19_valueOf_16 rfl rfl ?_
      refine r_sipush (v := nI 128) dJ19_valueOf_17 (by decide) ?_
      refine r_iadd dJ19_valueOf_20 ?_
      try simp only [nI_add]
      refine r_ic dJ19_valueOf_21 rfl (by omega) ?_
      refine r_areturn dJ19_valueOf_22 rfl (by first | exact Or.inl ⟨_, rfl⟩ | exact Or.inr ⟨_, rfl⟩) ?_
      exact hQ H _ Ks.rf (Or.inl ⟨n + 128, by omega, rfl, vb_c_eq n hn2⟩)
theorem s_intValue {a : Nat} {v : Int32} (h : IntO G H a v) (hQ : Qr (some (vI v)) H) : AMet G d 0 0 yJ19_intValue wJ19_intValue H [vR (some a)] Qr Qx := by
  rcases h with ⟨j, h1, rfl, h2⟩ | ⟨h1, h2⟩
  · refine AMet.of (M := mJ19_intValue) (maxL := 1) (by first | rfl | decide +kernel) rfl (Nat.le_of_ble_eq_true rfl) ?_
    show AW mJ19_intValue _ _ _ _ _ _ _ 0 [some (vR (some (gSt G (j + 10))))] []
    refine r_aload_n (i := 0) dJ19_intValue_0 rfl rfl ?_
    refine r_getIc dJ19_intValue_1 q1189 h1 rfl h2 ?_
    refine r_ireturn dJ19_intValue_4 rfl (by first | rfl | assumption | exact vp_nar_int _ | exact pk_nc _) ?_
    exact hQ
  · refine AMet.of (M := mJ19_intValue) (maxL := 1) (by first | rfl | decide +kernel) rfl (Nat.le_of_ble_eq_true rfl) ?_
    show AW mJ19_intValue _ _ _ _ _ _ _ 0 [some (vR (some a))] []
    refine r_aload_n (i := 0) dJ19_intValue_0 rfl rfl ?_
    refine r_getI dJ19_intValue_1 fR_J19_205 (by first | assumption | (simp only [kd_sI, kd_sR, kd_sA, kd_sQ, kd_sL, kd_sD, ln_sI, ln_sR, ln_sA, ln_sQ, ln_sL, ln_sD, gI_sR, gI_sA, gI_sQ, gI_sL, gI_sD, gR_sI, gR_sA, gR_sQ, gR_sL, gR_sD, gA_sI, gA_sR, gA_sQ, gA_sL, gA_sD, gQ_sI, gQ_sR, gQ_sA, gQ_sL, gQ_sD, gL_sI, gL_sR, gL_sA, gL_sQ, gL_sD]; assumption) | simp [kd_sI, kd_sR, kd_sA, kd_sQ, kd_sL, kd_sD, ln_sI, ln_sR, ln_sA, ln_sQ, ln_sL, ln_sD, gI_sR, gI_sA, gI_sQ, gI_sL, gI_sD, gR_sI, gR_sA, gR_sQ, gR_sL, gR_sD, gA_sI, gA_sR, gA_sQ, gA_sL, gA_sD, gQ_sI, gQ_sR, gQ_sA, gQ_sL, gQ_sD, gL_sI, gL_sR, gL_sA, gL_sQ, gL_sD, kd_nO, kd_nA, *]) (by first | assumption | exact gI_sIs | exact gR_sRs | with_reducible rfl | (simp only [kd_sI, kd_sR, kd_sA, kd_sQ, kd_sL, kd_sD, ln_sI, ln_sR, ln_sA, ln_sQ, ln_sL, ln_sD, gI_sR, gI_sA, gI_sQ, gI_sL, gI_sD, gR_sI, gR_sA, gR_sQ, gR_sL, gR_sD, gA_sI, gA_sR, gA_sQ, gA_sL, gA_sD, gQ_sI, gQ_sR, gQ_sA, gQ_sL, gQ_sD, gL_sI, gL_sR, gL_sA, gL_sQ, gL_sD]; first | done | assumption | with_reducible rfl) | rfl) ?_
    refine r_ireturn dJ19_intValue_4 rfl (by first | rfl | assumption | exact vp_nar_int _ | exact pk_nc _) ?_
    exact hQ
end Mis2
