set_option maxRecDepth 100000
theorem leadF_walk {g : Nat → Int32} {c : Nat} (hT : GT g) : ∀ (k i p q : Nat), p < 8 → (∀ j, i ≤ j → j < i + k → nat g (109 + 21 * c + j) < nat g 40) → walkP g p ((List.range' i k).map (fun j => nat g (109 + 21 * c + j))) = some q → q_leadF g c k i (nI p) = some (nI q) := by
  intro k
  induction k with
  | zero =>
    intro i p q _ _ h
    have h' : some p = some q := h
    cases h'
    rfl
  | succ k ih =>
    intro i p q hp hs h
    have ht := hs i (Nat.le_refl _) (by omega)
    rw [List.range'_succ, List.map_cons] at h
    unfold walkP at h
    unfold q_leadF
    cases he : ed g (nat g (109 + 21 * c + i)) p with
    | none => rw [he] at h; cases h
    | some o =>
      rw [he] at h
      obtain ⟨o1, o2, -⟩ := q_other_ed hT ht hp he
      rw [q_at_ed hT ht hp, he, if_pos (show (some o).isSome = true from rfl), o1]
      exact ih (i + 1) o q o2 (fun j h1 h2 => hs j (by omega) (by omega)) h
theorem q_leads_t {g : Nat → Int32} (h : IG g) {c : Nat} (hc : c < nat g 101) : q_leads g c = true := by
  obtain ⟨i1, i2, i3, i4, -, -, -, -, -, i10, -⟩ := h
  obtain ⟨⟨f1, f2⟩, ⟨t1, t2⟩, -⟩ := i3 c hc
  obtain ⟨x, -, -⟩ := i10 c hc
  unfold q_leads
  by_cases h0 : g (105 + 21 * c) = 0
  · rw [i4 c hc h0]
    unfold q_leadF
    dsimp only
    rw [decide_eq_true h0, Bool.true_or]
  · have hw := x h0
    unfold stepsL at hw
    rw [List.range_eq_range'] at hw
    have := leadF_walk i2 _ 0 _ _ f2 (fun j _ hj => ((i1.2.2.2.2.2 c hc).2.2 j (by omega)).2) hw
    rw [← f1] at this
    rw [this]
    dsimp only
    rw [decide_eq_true t1.symm, Bool.or_true]
theorem q_cons_eq {g : Nat → Int32} (h : IG g) : q_cons g = decide (q_drums g 1 (-1) + q_cuts g + g 2 = q_drums g 2 (-1)) := by
  have hn : find9 (q_badC g) 0 (nat g 101) = none := by
    cases hf : find9 (q_badC g) 0 (nat g 101) with
    | none => rfl
    | some c =>
      obtain ⟨-, h2, h3⟩ := find9_lt hf
      have hc : c < nat g 101 := by omega
      unfold q_badC at h3
      rw [q_leads_t h hc] at h3
      have hb : find9 (q_bad g c) 0 (nat g (106 + 21 * c)) = none := by
        cases hf2 : find9 (q_bad g c) 0 (nat g (106 + 21 * c)) with
        | none => rfl
        | some k =>
          obtain ⟨-, k2, k3⟩ := find9_lt hf2
          have hk := h.2.2.2.2.2.2.2.2.2.2 c hc k (by omega)
          unfold q_bad at k3
          rw [hk, beq_self_eq_true] at k3
          cases k3
      rw [hb] at h3
      cases h3
  unfold q_cons
  rw [hn]
  rfl
