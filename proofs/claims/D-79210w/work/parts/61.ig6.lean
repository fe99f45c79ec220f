set_option maxRecDepth 100000
theorem IG_type {g : Nat → Int32} {it : Itm} (h : IG g) (hok : okI it) (hs : it.1 = 107) (hc : c_type g it = true) : IG (typeG g it) := by
  obtain ⟨i1, i2, i3, i4, i5, i6, i7, i8, i9, i10, i11⟩ := h
  obtain ⟨o1, o2, o3, -, -⟩ := hok
  have ol := o2 (by omega)
  unfold c_type at hc
  simp only [Bool.and_eq_true, Bool.not_eq_true', decide_eq_false_iff_not] at hc
  obtain ⟨⟨⟨hn, hY6⟩, ha⟩, hb⟩ := hc
  obtain ⟨a, ha2, hae, -⟩ := inB_c ha (by omega)
  obtain ⟨b, hb1, hb2, hbe⟩ := inB_1 hb (by omega) (by omega)
  obtain ⟨nm, hnm⟩ := ex_val it.2.1
  rw [← hnm] at o1 o3 ol hn
  have i1' := i1
  obtain ⟨b1, b2, b3, b4, b5, b6⟩ := i1
  have hC2 := b3.2
  have hR2 := b2.2
  have hY2 := b1.2
  obtain ⟨Y, hYe⟩ := ex_val (nat g 3)
  obtain ⟨G, hG⟩ := ex_val (typeG g it)
  rw [← hG]
  unfold typeG at hG
  rw [← hYe, ← hnm, hae, hbe] at hG
  rw [← hYe] at hY2 hY6
  have out : ∀ i, i ≠ 3 → ¬ (4 + 6 * Y ≤ i ∧ i < 10 + 6 * Y) → G i = g i := by
    intro i h1 h2
    rw [hG, upd_n h1, upd_n (by omega), upd_n (by omega), upd_n (by omega), upd_n (by omega), upd_n (by omega), upd_n (by omega)]
  have v3 : G 3 = nI (Y + 1) := by rw [hG, upd_s]
  have l : ∀ i, i < nm.length → G (4 + 6 * Y + i) = nI (nm.getD i 0) := by
    intro i hi
    rcases (show i = 0 ∨ i = 1 ∨ i = 2 by omega) with rfl | rfl | rfl
    · rw [hG, upd_n (by omega), upd_n (by omega), upd_n (by omega), upd_n (by omega), upd_n (by omega), upd_n (by omega), upd_s]
    · rw [hG, upd_n (by omega), upd_n (by omega), upd_n (by omega), upd_n (by omega), upd_n (by omega), upd_s]
    · rw [hG, upd_n (by omega), upd_n (by omega), upd_n (by omega), upd_n (by omega), upd_s]
  have v7 : G (7 + 6 * Y) = nI nm.length := by
    rw [hG, upd_n (by omega), upd_n (by omega), upd_n (by omega), show 7 + 6 * Y = 4 + 6 * Y + 3 by omega, upd_s]
  have v8 : G (8 + 6 * Y) = nI a := by
    rw [hG, upd_n (by omega), upd_n (by omega), show 8 + 6 * Y = 4 + 6 * Y + 4 by omega, upd_s]
  have v9 : G (9 + 6 * Y) = nI b := by
    rw [hG, upd_n (by omega), show 9 + 6 * Y = 4 + 6 * Y + 5 by omega, upd_s]
  have n3 : nat G 3 = Y + 1 := (isN_of (b := 20) v3 (by omega) (by omega)).2
  have agT : Ag g G 40 101 := fun i h1 h2 => out i (by omega) (by omega)
  have agC : Ag g G 101 354 := fun i h1 h2 => out i (by omega) (by omega)
  have agD : Ag g G 354 385 := fun i h1 h2 => out i (by omega) (by omega)
  obtain ⟨y1, y2⟩ := i8
  refine ⟨⟨(isN_of v3 (by omega) (by omega)).1, agT.i (by omega) (by omega) b2, agC.i (by omega) (by omega) b3, agD.i (by omega) (by omega) b4, ?_, ?_⟩, GT_ag i1' i2 agT, GC_ag i1' i3 agC, GA_ag i1' i4 agC, GD_ag i1' i5 agD, ?_, GV_ag i1' i7 (isN_eq (out 0 (by omega) (by omega)) i7.1) (isN_eq (out 1 (by omega) (by omega)) i7.2.1) agT, ⟨?_, ?_⟩, GS_ag i1' i9 agC, GR_ag i1' i10 agT agC, GK_ag i1' i11 (Or.inr (fun c hc i h1 h2 => ?_)) agC⟩
  · intro t ht
    rw [agT.n (by omega) (by omega)] at ht
    rw [agT.n (by omega) (by omega)]
    exact ⟨agT.i (by omega) (by omega) (b5 t ht).1, (b5 t ht).2⟩
  · intro c hc
    rw [agC.n (by omega) (by omega)] at hc
    obtain ⟨d1, d2, d3⟩ := b6 c hc
    have := d2.2
    rw [n3, agT.n (i := 40) (by omega) (by omega), agC.n (i := 106 + 21 * c) (by omega) (by omega)]
    exact ⟨isN_mono (agC.i (by omega) (by omega) d1) (by omega), agC.i (by omega) (by omega) d2, fun k hk => agC.i (by omega) (by omega) (d3 k hk)⟩
  · intro i hi
    rw [out i (by omega) (by omega)]
    exact i6 i hi
  · intro y hy
    rw [n3] at hy
    by_cases e : y = Y
    · subst e
      obtain ⟨x1, x2⟩ := isN_of (b := 4) v7 (by omega) (by omega)
      refine ⟨x1, by omega, ?_, (isN_of v8 (by omega) (by omega)).1, (isN_of v9 (by omega) (by omega)).1⟩
      rw [x2]
      intro i hi
      have hm := o3 _ (getD_mem hi)
      obtain ⟨z1, z2⟩ := isN_of (b := 123) (l i hi) (by omega) (by omega)
      exact ⟨z1, by omega⟩
    · obtain ⟨x1, x2, x3, x4, x5⟩ := y1 y (by omega)
      have := x1.2
      rw [nat_eq (out (7 + 6 * y) (by omega) (by omega))]
      refine ⟨isN_eq (out _ (by omega) (by omega)) x1, x2, ?_, isN_eq (out _ (by omega) (by omega)) x4, isN_eq (out _ (by omega) (by omega)) x5⟩
      intro i hi
      rw [nat_eq (out (4 + 6 * y + i) (by omega) (by omega))]
      exact ⟨isN_eq (out _ (by omega) (by omega)) (x3 i hi).1, (x3 i hi).2⟩
  · intro y z hyz hz hsn
    rw [n3] at hz
    have ay := (y1 y (by omega)).1
    obtain ⟨ay1, ay2⟩ := ay
    obtain ⟨s1, s2⟩ := hsn
    rw [nat_eq (out (7 + 6 * y) (by omega) (by omega))] at s1 s2
    by_cases e : z = Y
    · subst e
      rw [(isN_of (b := 4) v7 (by omega) (by omega)).2] at s1
      have hno : q_named g nm = none := by
        cases hq : q_named g nm with
        | none => rfl
        | some x => rw [hq] at hn; cases hn
      unfold q_named at hno
      have h9 := find9_none hno (Nat.zero_le y) (by omega)
      have e7 : (g (7 + 6 * y) == nI nm.length) = true := by rw [ay1, s1]; exact beq_self_eq_true _
      have el : (find9 (fun i => !(g (4 + 6 * y + i) == nI (nm.getD i 0))) 0 nm.length).isNone = true := by
        cases hf : find9 (fun i => !(g (4 + 6 * y + i) == nI (nm.getD i 0))) 0 nm.length with
        | none => rfl
        | some i =>
          obtain ⟨-, k2, k3⟩ := find9_lt hf
          have hi : i < nm.length := by omega
          have := s2 i (by omega)
          rw [out (4 + 6 * y + i) (by omega) (by omega), l i hi] at this
          rw [this, beq_self_eq_true] at k3
          cases k3
      rw [e7, el] at h9
      cases h9
    · refine y2 y z hyz (by omega) ⟨?_, fun i hi => ?_⟩
      · rw [nat_eq (out (7 + 6 * z) (by omega) (by omega))] at s1
        exact s1
      · have := s2 i hi
        rw [out (4 + 6 * y + i) (by omega) (by omega), out (4 + 6 * z + i) (by omega) (by omega)] at this
        exact this
  · have hy := (b6 c hc).1.2
    exact out i (by omega) (by omega)
theorem IG_carry {g : Nat → Int32} {it : Itm} {g' : Nat → Int32} (h : IG g) (hok : okI it) (hc : carryF g it = some g') : IG g' := by
  unfold carryF at hc
  by_cases h1 : it.1 = 107
  · rw [if_pos h1] at hc
    by_cases h2 : c_type g it = true
    · rw [if_pos h2] at hc
      cases hc
      exact IG_type h hok h1 h2
    · rw [if_neg h2] at hc
      cases hc
  · rw [if_neg h1] at hc
    by_cases h2 : it.1 = 116
    · rw [if_pos h2] at hc
      by_cases h3 : c_addTray g (nv it 0) (nv it 1) (nv it 2) (nv it 3) (nv it 4) = 0
      · rw [if_pos h3] at hc
        cases hc
        exact IG_tray h h3
      · rw [if_neg h3] at hc
        cases hc
    · rw [if_neg h2] at hc
      cases hn : q_named g it.2.1 with
      | none => rw [hn] at hc; cases hc
      | some y =>
        rw [hn] at hc
        dsimp only at hc
        by_cases h4 : it.1 = 99
        · rw [if_pos h4] at hc
          by_cases h5 : c_addCable g (nI y) (nv it 0) (nv it 1) = 0
          · rw [if_pos h5] at hc
            cases hc
            exact IG_cable h h5
          · rw [if_neg h5] at hc
            cases hc
        · rw [if_neg h4] at hc
          by_cases h5 : c_addDrum g (nI y) (nv it 0) = 0
          · rw [if_pos h5] at hc
            cases hc
            exact IG_drum h h5
          · rw [if_neg h5] at hc
            cases hc
