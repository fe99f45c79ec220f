set_option maxRecDepth 100000
/-! cables of one compartment are of one class -/
def cls (g : Nat → Int32) (c : Nat) : Int32 := g (8 + 6 * nat g (102 + 21 * c))
def GK2 (g : Nat → Int32) : Prop := ∀ t k c1 c2, c1 < nat g 101 → c2 < nat g 101 → q_in g t k c1 = true → q_in g t k c2 = true → cls g c1 = cls g c2
theorem q_in_at {g : Nat → Int32} {t k : Int32} {c : Nat} (h : q_in g t k c = true) : ∃ j, j < nat g (106 + 21 * c) ∧ g (109 + 21 * c + j) = t ∧ g (116 + 21 * c + j) = k := by
  unfold q_in at h
  cases hs : q_step g c t with
  | none => rw [hs] at h; cases h
  | some j =>
    rw [hs] at h
    obtain ⟨-, h2, h3⟩ := find9_lt hs
    exact ⟨j, by omega, eq_of_beq h3, eq_of_beq h⟩
theorem nodup_at {g : Nat → Int32} {c : Nat} (h : (stepsL g c).Nodup) {i j : Nat} (hij : i < j) (hj : j < nat g (106 + 21 * c)) : nat g (109 + 21 * c + i) ≠ nat g (109 + 21 * c + j) := by
  have hl : (stepsL g c).length = nat g (106 + 21 * c) := by unfold stepsL; simp
  have := (List.pairwise_iff_getElem.mp h) i j (by omega) (by omega) hij
  unfold stepsL at this
  simpa using this
theorem q_in_of {g : Nat → Int32} {c j : Nat} (h : (stepsL g c).Nodup) (hj : j < nat g (106 + 21 * c)) : q_in g (g (109 + 21 * c + j)) (g (116 + 21 * c + j)) c = true := by
  have hs : q_step g c (g (109 + 21 * c + j)) = some j := by
    unfold q_step
    cases hf : find9 (fun k => g (109 + 21 * c + k) == g (109 + 21 * c + j)) 0 (nat g (106 + 21 * c)) with
    | none =>
      have := find9_none hf (Nat.zero_le j) (by omega)
      simp at this
    | some i =>
      obtain ⟨-, h2, h3⟩ := find9_lt hf
      have h3' : g (109 + 21 * c + i) = g (109 + 21 * c + j) := eq_of_beq h3
      have hij : ¬ j < i := by
        intro q
        have := find9_some hf (Nat.zero_le j) q
        simp at this
      by_cases e : i = j
      · rw [e]
      · exact absurd (by unfold nat; rw [h3']) (nodup_at h (show i < j by omega) hj)
  unfold q_in
  rw [hs]
  exact beq_self_eq_true _
theorem q_class_of {g : Nat → Int32} {t k : Int32} {c : Nat} (h : GK2 g) (hc : c < nat g 101) (hq : q_in g t k c = true) : q_class g t k = cls g c := by
  unfold q_class
  cases hf : find9 (q_in g t k) 0 (nat g 101) with
  | none =>
    have := find9_none hf (Nat.zero_le c) (by omega)
    rw [hq] at this
    cases this
  | some c1 =>
    obtain ⟨-, h2, h3⟩ := find9_lt hf
    exact h t k c1 c (by omega) hc h3 hq
theorem GK_2 {g : Nat → Int32} (h : GK g) : GK2 g := by
  intro t k c1 c2 h1 h2 q1 q2
  obtain ⟨j1, a1, rfl, rfl⟩ := q_in_at q1
  obtain ⟨j2, a2, b2, d2⟩ := q_in_at q2
  have e1 := h c1 h1 j1 a1
  have e2 := h c2 h2 j2 a2
  rw [b2, d2] at e2
  exact e1.symm.trans e2
theorem GK_of2 {g : Nat → Int32} (h : GK2 g) (hn : ∀ c, c < nat g 101 → (stepsL g c).Nodup) : GK g := by
  intro c hc k hk
  exact q_class_of h hc (q_in_of (hn c hc) hk)
theorem q_in_c {g g' : Nat → Int32} {c : Nat} (hk : nat g (106 + 21 * c) < 8) (h6 : g' (106 + 21 * c) = g (106 + 21 * c)) (h : ∀ w, 7 ≤ w → w < 21 → g' (102 + 21 * c + w) = g (102 + 21 * c + w)) {t k : Int32} : q_in g' t k c = q_in g t k c := by
  have hs : q_step g' c t = q_step g c t := by
    unfold q_step
    rw [nat_eq h6]
    refine find9_cg _ _ (fun j _ hj => ?_)
    have := h (7 + j) (by omega) (by omega)
    rw [show 102 + 21 * c + (7 + j) = 109 + 21 * c + j by omega] at this
    rw [this]
  unfold q_in
  rw [hs]
  cases hq : q_step g c t with
  | none => rfl
  | some j =>
    dsimp only
    have hj := (find9_lt hq).2.1
    have := h (14 + j) (by omega) (by omega)
    rw [show 102 + 21 * c + (14 + j) = 116 + 21 * c + j by omega] at this
    rw [this]
theorem stepsL_c {g g' : Nat → Int32} {c : Nat} (hk : nat g (106 + 21 * c) < 8) (h6 : g' (106 + 21 * c) = g (106 + 21 * c)) (h : ∀ w, 7 ≤ w → w < 21 → g' (102 + 21 * c + w) = g (102 + 21 * c + w)) : stepsL g' c = stepsL g c := by
  unfold stepsL
  rw [nat_eq h6]
  refine List.map_congr_left ?_
  intro j hj
  rw [List.mem_range] at hj
  have := h (7 + j) (by omega) (by omega)
  rw [show 102 + 21 * c + (7 + j) = 109 + 21 * c + j by omega] at this
  exact nat_eq this
theorem stepsL_0 {g : Nat → Int32} {c : Nat} (h : nat g (106 + 21 * c) = 0) : stepsL g c = [] := by
  unfold stepsL
  rw [h]
  rfl
theorem q_in_0 {g : Nat → Int32} {c : Nat} {t k : Int32} (h : nat g (106 + 21 * c) = 0) : q_in g t k c = false := by
  unfold q_in q_step
  rw [h]
  rfl
theorem IG_leaves {g : Nat → Int32} {c0 : Nat} (h : IG g) (hc0 : c0 < nat g 101) : IG (leavesG g c0) := by
  obtain ⟨i1, i2, i3, i4, i5, i6, i7, i8, i9, i10, i11⟩ := h
  obtain ⟨G, hG⟩ := ex_val (leavesG g c0)
  rw [← hG]
  have i1' := i1
  obtain ⟨b1, b2, b3, b4, b5, b6⟩ := i1
  have hC2 := b3.2
  have hR2 := b2.2
  have out : ∀ i, ¬ (105 + 21 * c0 ≤ i ∧ i < 109 + 21 * c0) → G i = g i := by
    intro i hi
    rw [hG]
    unfold leavesG
    rw [upd_n (by omega), upd_n (by omega), upd_n (by omega), upd_n (by omega)]
  have v5 : G (105 + 21 * c0) = nI 0 := by
    rw [hG]; unfold leavesG
    rw [upd_n (by omega), upd_n (by omega), upd_n (by omega), show 105 + 21 * c0 = 102 + 21 * c0 + 3 by omega, upd_s]
  have v6 : G (106 + 21 * c0) = nI 0 := by
    rw [hG]; unfold leavesG
    rw [upd_n (by omega), upd_n (by omega), show 106 + 21 * c0 = 102 + 21 * c0 + 4 by omega, upd_s]
  have v7 : G (107 + 21 * c0) = nI 0 := by
    rw [hG]; unfold leavesG
    rw [upd_n (by omega), show 107 + 21 * c0 = 102 + 21 * c0 + 5 by omega, upd_s]
  have v8 : G (108 + 21 * c0) = -1 := by
    rw [hG]; unfold leavesG
    rw [show 108 + 21 * c0 = 102 + 21 * c0 + 6 by omega, upd_s]
  have n6 : nat G (106 + 21 * c0) = 0 := (isN_of (b := 8) v6 (by omega) (by omega)).2
  have ag : ∀ a b, b ≤ 105 ∨ 354 ≤ a → Ag g G a b := fun a b hb i h1 h2 => out i (by omega)
  have n101 : nat G 101 = nat g 101 := nat_eq (out 101 (by omega))
  have oc : ∀ c, c ≠ c0 → ∀ w, w < 21 → G (102 + 21 * c + w) = g (102 + 21 * c + w) := fun c hc w hw => out _ (by omega)
  have oc6 : ∀ c, c ≠ c0 → G (106 + 21 * c) = g (106 + 21 * c) := fun c hc => out _ (by omega)
  have st : ∀ c, c < nat g 101 → c ≠ c0 → stepsL G c = stepsL g c := fun c hc hne => stepsL_c (b6 c hc).2.1.2 (oc6 c hne) (fun w _ hw => oc c hne w hw)
  have st0 : stepsL G c0 = [] := stepsL_0 n6
  have nd : ∀ c, c < nat G 101 → (stepsL G c).Nodup := by
    intro c hc
    rw [n101] at hc
    by_cases e : c = c0
    · rw [e, st0]; exact List.nodup_nil
    · rw [st c hc e]; exact (i10 c hc).2.1
  refine ⟨⟨(ag 3 4 (by omega)).i (by omega) (by omega) b1, (ag 40 41 (by omega)).i (by omega) (by omega) b2, isN_eq (out 101 (by omega)) b3, (ag 354 355 (by omega)).i (by omega) (by omega) b4, ?_, ?_⟩, GT_ag i1' i2 (ag _ _ (by omega)), ?_, ?_, GD_ag i1' i5 (ag _ _ (by omega)), ?_, GV_ag i1' i7 (isN_eq (out 0 (by omega)) i7.1) (isN_eq (out 1 (by omega)) i7.2.1) (ag _ _ (by omega)), GY_ag i1' i8 (ag _ _ (by omega)), ?_, ?_, GK_of2 ?_ nd⟩
  · intro t ht
    rw [nat_eq (out 40 (by omega))] at ht
    have e := out (45 + 5 * t) (by omega)
    rw [nat_eq e]
    exact ⟨isN_eq e (b5 t ht).1, (b5 t ht).2⟩
  · intro c hc
    rw [n101] at hc
    obtain ⟨d1, d2, d3⟩ := b6 c hc
    rw [nat_eq (out 3 (by omega)), nat_eq (out 40 (by omega))]
    by_cases e : c = c0
    · subst e
      refine ⟨isN_eq (out _ (by omega)) d1, (isN_of v6 (by omega) (by omega)).1, ?_⟩
      intro k hk
      rw [n6] at hk
      omega
    · have := d2.2
      rw [nat_eq (oc6 c e)]
      exact ⟨isN_eq (out _ (by omega)) d1, isN_eq (out _ (by omega)) d2, fun k hk => isN_eq (out _ (by omega)) (d3 k hk)⟩
  · intro c hc
    rw [n101] at hc
    obtain ⟨x, y, z⟩ := i3 c hc
    have e3 := out (103 + 21 * c) (by omega)
    have e4 := out (104 + 21 * c) (by omega)
    rw [nat_eq e3, nat_eq e4]
    exact ⟨isN_eq e3 x, isN_eq e4 y, z⟩
  · intro c hc hs
    rw [n101] at hc
    by_cases e : c = c0
    · rw [e]; exact n6
    · rw [out _ (by omega)] at hs
      rw [nat_eq (oc6 c e)]
      exact i4 c hc hs
  · intro i hi
    rw [out i (by omega)]
    exact i6 i hi
  · intro c hc
    rw [n101] at hc
    by_cases e : c = c0
    · subst e
      exact ⟨(isN_of v5 (by omega) (by omega)).1, fun _ => ⟨v7, v8⟩⟩
    · obtain ⟨x, y⟩ := i9 c hc
      rw [out (105 + 21 * c) (by omega), out (107 + 21 * c) (by omega), out (108 + 21 * c) (by omega)]
      exact ⟨isN_eq (out (105 + 21 * c) (by omega)) x, y⟩
  · intro c hc
    have hnd := nd c hc
    rw [n101] at hc
    refine ⟨?_, hnd, ?_⟩
    · by_cases e : c = c0
      · subst e
        intro q
        exact absurd v5 q
      · rw [out (105 + 21 * c) (by omega), st c hc e, nat_eq (out (103 + 21 * c) (by omega)), nat_eq (out (104 + 21 * c) (by omega)), walkP_ag (ag _ _ (by omega)) _ _ (fun t ht => by have := stepsL_lt i1' hc t ht; omega)]
        exact (i10 c hc).1
    · by_cases e : c = c0
      · subst e
        intro k hk
        rw [n6] at hk
        omega
      · intro k hk
        rw [nat_eq (oc6 c e)] at hk
        obtain ⟨-, d2, d3⟩ := b6 c hc
        have := d2.2
        have hs := (d3 k hk).2
        rw [nat_eq (out (109 + 21 * c + k) (by omega)), nat_eq (out (45 + 5 * nat g (109 + 21 * c + k)) (by omega))]
        exact isN_eq (out _ (by omega)) ((i10 c hc).2.2 k hk)
  · intro t k c1 c2 h1 h2 q1 q2
    rw [n101] at h1 h2
    have ne : ∀ c, q_in G t k c = true → c ≠ c0 := by
      intro c q e
      rw [e, q_in_0 n6] at q
      cases q
    have tr : ∀ c, c < nat g 101 → q_in G t k c = true → q_in g t k c = true := by
      intro c hc q
      have hne := ne c q
      rw [q_in_c (b6 c hc).2.1.2 (oc6 c hne) (fun w _ hw => oc c hne w hw)] at q
      exact q
    have cl : ∀ c, c < nat g 101 → cls G c = cls g c := by
      intro c hc
      have hy := (b6 c hc).1.2
      have := b1.2
      unfold cls
      rw [nat_eq (out (102 + 21 * c) (by omega)), out _ (by omega)]
    rw [cl c1 h1, cl c2 h2]
    exact GK_2 i11 t k c1 c2 h1 h2 (tr c1 h1 q1) (tr c2 h2 q2)
