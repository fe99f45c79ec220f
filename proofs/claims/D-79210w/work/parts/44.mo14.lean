set_option maxRecDepth 100000
/-! what the search finds -/
def walkP (g : Nat → Int32) : Nat → List Nat → Option Nat
  | p, [] => some p
  | p, t :: ts => match ed g t p with
    | none => none
    | some o => walkP g o ts
theorem walkP_app {g : Nat → Int32} {t : Nat} : ∀ (row : List Nat) (p q : Nat), walkP g p row = some q → walkP g p (row ++ [t]) = ed g t q := by
  intro row
  induction row with
  | nil =>
    intro p q h
    cases h
    show (match ed g t p with | none => none | some o => walkP g o []) = _
    cases ed g t p <;> rfl
  | cons a row ih =>
    intro p q h
    show (match ed g a p with | none => none | some o => walkP g o (row ++ [t])) = _
    have h' : (match ed g a p with | none => none | some o => walkP g o row) = some q := h
    cases he : ed g a p with
    | none => rw [he] at h'; cases h'
    | some o =>
      rw [he] at h'
      exact ih o q h'
def GoodR (g : Nat → Int32) (op : Nat → Bool) (fr to : Nat) (r : List Nat) : Prop := r ≠ [] ∧ r.length ≤ 7 ∧ (∀ t, t ∈ r → t < nat g 40 ∧ op t = true) ∧ walkP g fr r = some to ∧ r.Nodup
def GoodB (g : Nat → Int32) (op : Nat → Bool) (fr to : Nat) (b : Best) : Prop := ∀ r s, b = some (r, s) → GoodR g op fr to r
theorem ed_end {g : Nat → Int32} {t p o : Nat} (h : ed g t p = some o) : (nat g (41 + 5 * t) = p ∧ nat g (42 + 5 * t) = o) ∨ (nat g (42 + 5 * t) = p ∧ nat g (41 + 5 * t) = o) := by
  unfold ed at h
  by_cases h1 : nat g (41 + 5 * t) = p
  · rw [if_pos h1] at h
    cases h
    exact Or.inl ⟨h1, rfl⟩
  · rw [if_neg h1] at h
    by_cases h2 : nat g (42 + 5 * t) = p
    · rw [if_pos h2] at h
      cases h
      exact Or.inr ⟨h2, rfl⟩
    · rw [if_neg h2] at h
      cases h
theorem bUp_good {g : Nat → Int32} {op : Nat → Bool} {fr to : Nat} {row : List Nat} {s : Int32} {b : Best} (hr : GoodR g op fr to row) (hb : GoodB g op fr to b) : GoodB g op fr to (bUp row s b) := by
  intro r s' h
  unfold bUp at h
  cases b with
  | none => cases h; exact hr
  | some q =>
    obtain ⟨r0, s0⟩ := q
    dsimp only at h
    split at h
    · cases h; exact hr
    · cases h; exact hb _ _ rfl
theorem dfs_good {g : Nat → Int32} {op : Nat → Bool} {fr to : Nat} : ∀ (f p mask : Nat) (row : List Nat) (s : Int32) (b : Best), row.length + f ≤ 7 → mask.testBit p = true → (∀ t, t ∈ row → (t < nat g 40 ∧ op t = true) ∧ mask.testBit (nat g (41 + 5 * t)) = true ∧ mask.testBit (nat g (42 + 5 * t)) = true) → walkP g fr row = some p → row.Nodup → GoodB g op fr to b → GoodB g op fr to (dfs g op to f p mask row s b) := by
  intro f
  induction f with
  | zero =>
    intro p mask row s b _ _ _ _ _ hb
    exact hb
  | succ f ih =>
    intro p mask row s b hl hp hrow hw hnd hb
    have sc : ∀ (n t0 : Nat) (b : Best), t0 + n = nat g 40 → GoodB g op fr to b → GoodB g op fr to (scan (dfsStep (dfs g op to f) g op to p mask row s) t0 n b) := by
      intro n
      induction n with
      | zero => intro t0 b _ hb; exact hb
      | succ n ih2 =>
        intro t0 b ht hb
        refine ih2 (t0 + 1) _ (by omega) ?_
        unfold dfsStep
        cases he : ed g t0 p with
        | none => exact hb
        | some o =>
          dsimp only
          have hend := ed_end he
          by_cases h1 : (mask.testBit o || !op t0) = true
          · rw [if_pos h1]; exact hb
          · rw [if_neg h1]
            have h2 : mask.testBit o = false := by
              cases hh : mask.testBit o
              · rfl
              · rw [hh] at h1; simp at h1
            have h3 : op t0 = true := by
              cases hh : op t0
              · rw [hh] at h1; simp at h1
              · rfl
            have hnot : t0 ∉ row := by
              intro hm
              obtain ⟨-, m1, m2⟩ := hrow t0 hm
              rcases hend with ⟨-, q⟩ | ⟨-, q⟩
              · rw [q, h2] at m2; cases m2
              · rw [q, h2] at m1; cases m1
            have hnd2 : (row ++ [t0]).Nodup := by
              rw [List.nodup_append]
              refine ⟨hnd, by simp, ?_⟩
              intro a ha b hb e
              rw [List.mem_singleton] at hb
              subst hb
              exact hnot (e ▸ ha)
            have hw2 : walkP g fr (row ++ [t0]) = some o := by rw [walkP_app row fr p hw]; exact he
            have hall : ∀ t, t ∈ row ++ [t0] → t < nat g 40 ∧ op t = true := by
              intro t hm
              rw [List.mem_append, List.mem_singleton] at hm
              rcases hm with hm | rfl
              · exact (hrow t hm).1
              · exact ⟨by omega, h3⟩
            by_cases h4 : o = to
            · rw [if_pos h4]
              refine bUp_good ⟨by simp, by rw [List.length_append]; simp; omega, hall, by rw [hw2, h4], hnd2⟩ hb
            · rw [if_neg h4]
              refine ih o (mask ||| 2 ^ o) (row ++ [t0]) _ b (by rw [List.length_append]; simp; omega) (by rw [Nat.testBit_or, Nat.testBit_two_pow_self]; simp) ?_ hw2 hnd2 hb
              intro t hm
              refine ⟨hall t hm, ?_⟩
              rw [List.mem_append, List.mem_singleton] at hm
              rcases hm with hm | rfl
              · obtain ⟨-, m1, m2⟩ := hrow t hm
                rw [Nat.testBit_or, Nat.testBit_or, m1, m2]
                exact ⟨rfl, rfl⟩
              · rcases hend with ⟨q1, q2⟩ | ⟨q1, q2⟩
                · rw [q1, q2, Nat.testBit_or, Nat.testBit_or, hp, Nat.testBit_two_pow_self]
                  simp
                · rw [q1, q2, Nat.testBit_or, Nat.testBit_or, hp, Nat.testBit_two_pow_self]
                  simp
    exact sc (nat g 40) 0 b (by omega) hb
theorem wayB_good {g : Nat → Int32} {ty : Option Nat} {fr to : Nat} {r : List Nat} {s : Int32} (h : wayB g ty fr to = some (r, s)) : GoodR g (opB g ty) fr to r := by
  refine dfs_good 7 fr (2 ^ fr) [] (nI 0) none (by decide) (Nat.testBit_two_pow_self) ?_ rfl (by simp) ?_ r s h
  · intro t ht; cases ht
  · intro r s h; cases h
def routeG (g : Nat → Int32) (c : Nat) (r : List Nat) : Nat → Int32 := fun i => if i = 105 + 21 * c then nI 1 else if i = 106 + 21 * c then nI r.length else if 109 + 21 * c ≤ i ∧ i < 109 + 21 * c + r.length then nI (r.getD (i - (109 + 21 * c)) 0) else if 116 + 21 * c ≤ i ∧ i < 116 + 21 * c + r.length then oI (q_place g (r.getD (i - (116 + 21 * c)) 0) (nat g (102 + 21 * c))) else g i
theorem nat_eq {g g' : Nat → Int32} {i : Nat} (h : g' i = g i) : nat g' i = nat g i := by
  unfold nat
  rw [h]
theorem isN_eq {g g' : Nat → Int32} {i b : Nat} (h : g' i = g i) (k : isN g i b) : isN g' i b := by
  unfold isN
  rw [nat_eq h, h]
  exact k
theorem routeG_out {g : Nat → Int32} {c : Nat} {r : List Nat} {i : Nat} (hl : r.length ≤ 7) (h : i < 105 + 21 * c ∨ 123 + 21 * c ≤ i) : routeG g c r i = g i := by
  unfold routeG
  rw [if_neg (by omega), if_neg (by omega), if_neg (by omega), if_neg (by omega)]
theorem getD_mem {r : List Nat} {k : Nat} (h : k < r.length) : r.getD k 0 ∈ r := by
  rw [List.getD_eq_getElem?_getD, List.getElem?_eq_getElem h]
  exact List.getElem_mem h
theorem GB_route {g : Nat → Int32} {c : Nat} {r : List Nat} {op : Nat → Bool} {fr to : Nat} (hB : GB g) (hc : c < nat g 101) (hr : GoodR g op fr to r) : GB (routeG g c r) := by
  obtain ⟨-, hl, hall, -, -⟩ := hr
  obtain ⟨b1, b2, b3, b4, b5, b6⟩ := hB
  have e3 : routeG g c r 3 = g 3 := routeG_out hl (Or.inl (by omega))
  have e40 : routeG g c r 40 = g 40 := routeG_out hl (Or.inl (by omega))
  have e101 : routeG g c r 101 = g 101 := routeG_out hl (Or.inl (by omega))
  have hC := b3.2
  have hc1 := hC
  have e354 : routeG g c r 354 = g 354 := routeG_out hl (Or.inr (by omega))
  refine ⟨isN_eq e3 b1, isN_eq e40 b2, isN_eq e101 b3, isN_eq e354 b4, ?_, ?_⟩
  · intro t ht
    rw [nat_eq e40] at ht
    have := b2.2
    have e : routeG g c r (45 + 5 * t) = g (45 + 5 * t) := routeG_out hl (Or.inl (by omega))
    rw [nat_eq e]
    exact ⟨isN_eq e (b5 t ht).1, (b5 t ht).2⟩
  · intro c' hc'
    rw [nat_eq e101] at hc'
    obtain ⟨d1, d2, d3⟩ := b6 c' hc'
    rw [nat_eq e3, nat_eq e40]
    by_cases hcc : c' = c
    · subst hcc
      have x1 : routeG g c' r (106 + 21 * c') = nI r.length := by
        unfold routeG
        rw [if_neg (by omega), if_pos rfl]
      obtain ⟨y1, y2⟩ := isN_of (b := 8) x1 (by omega) (by omega)
      refine ⟨isN_eq (routeG_out hl (Or.inl (by omega))) d1, y1, ?_⟩
      rw [y2]
      intro k hk
      have x2 : routeG g c' r (109 + 21 * c' + k) = nI (r.getD k 0) := by
        unfold routeG
        rw [if_neg (by omega), if_neg (by omega), if_pos (by omega), Nat.add_sub_cancel_left]
      have hm := (hall _ (getD_mem hk)).1
      have := b2.2
      exact (isN_of x2 hm (by omega)).1
    · have o : ∀ w, w < 21 → routeG g c r (102 + 21 * c' + w) = g (102 + 21 * c' + w) := by
        intro w hw
        exact routeG_out hl (by omega)
      have x1 : routeG g c r (106 + 21 * c') = g (106 + 21 * c') := by
        have := o 4 (by omega)
        rw [show 102 + 21 * c' + 4 = 106 + 21 * c' by omega] at this
        exact this
      refine ⟨isN_eq (o 0 (by omega)) d1, isN_eq x1 d2, ?_⟩
      rw [nat_eq x1]
      intro k hk
      have := d2.2
      have x2 := o (7 + k) (by omega)
      rw [show 102 + 21 * c' + (7 + k) = 109 + 21 * c' + k by omega] at x2
      exact isN_eq x2 (d3 k hk)
/-! what is asked of the compartments does not hang on a cable without steps -/
theorem find9_cg {p q : Nat → Bool} : ∀ (n i : Nat), (∀ j, i ≤ j → j < i + n → p j = q j) → find9 p i n = find9 q i n := by
  intro n
  induction n with
  | zero => intro i _; rfl
  | succ n ih =>
    intro i h
    unfold find9
    rw [h i (Nat.le_refl _) (by omega), ih (i + 1) (fun j h1 h2 => h j (by omega) (by omega))]
theorem sumN_cg {F F' : Nat → Int32} : ∀ (n : Nat), (∀ j, j < n → F j = F' j) → sumN F n = sumN F' n := by
  intro n
  induction n with
  | zero => intro _; rfl
  | succ n ih =>
    intro h
    unfold sumN
    rw [ih (fun j hj => h j (by omega)), h n (by omega)]
theorem q_step_cg {g g' : Nat → Int32} {c0 : Nat} (hB : GB g) (h0 : nat g (106 + 21 * c0) = 0) (h : ∀ i, ¬ (109 + 21 * c0 ≤ i ∧ i < 123 + 21 * c0) → g' i = g i) {c : Nat} (hc : c < nat g 101) {t : Int32} : q_step g' c t = q_step g c t := by
  unfold q_step
  obtain ⟨-, d2, -⟩ := hB.2.2.2.2.2 c hc
  have h2 := d2.2
  rw [nat_eq (h (106 + 21 * c) (by omega))]
  by_cases hcc : c = c0
  · subst hcc
    rw [h0]
    rfl
  · refine find9_cg _ _ ?_
    intro j _ hj
    rw [h (109 + 21 * c + j) (by omega)]
theorem q_in_cg {g g' : Nat → Int32} {c0 : Nat} (hB : GB g) (h0 : nat g (106 + 21 * c0) = 0) (h : ∀ i, ¬ (109 + 21 * c0 ≤ i ∧ i < 123 + 21 * c0) → g' i = g i) {c : Nat} (hc : c < nat g 101) {t k : Int32} : q_in g' t k c = q_in g t k c := by
  unfold q_in
  rw [q_step_cg hB h0 h hc]
  cases hs : q_step g c t with
  | none => rfl
  | some j =>
    dsimp only
    obtain ⟨-, d2, -⟩ := hB.2.2.2.2.2 c hc
    have h2 := d2.2
    have hj := (find9_lt hs).2.1
    have hcc : c ≠ c0 := by
      intro e
      rw [e, h0] at hj
      omega
    rw [h (116 + 21 * c + j) (by omega)]
theorem q_class_cg {g g' : Nat → Int32} {c0 : Nat} (hB : GB g) (h0 : nat g (106 + 21 * c0) = 0) (h : ∀ i, ¬ (109 + 21 * c0 ≤ i ∧ i < 123 + 21 * c0) → g' i = g i) {t k : Int32} : q_class g' t k = q_class g t k := by
  unfold q_class
  rw [nat_eq (h 101 (by omega)), find9_cg (q := q_in g t k) _ _ (fun j _ hj => q_in_cg hB h0 h (by omega))]
  cases hf : find9 (q_in g t k) 0 (nat g 101) with
  | none => rfl
  | some c =>
    dsimp only
    have hc := (find9_lt hf).2.1
    obtain ⟨d1, -, -⟩ := hB.2.2.2.2.2 c (by omega)
    have := d1.2
    have := hB.1.2
    rw [nat_eq (h (102 + 21 * c) (by omega)), h _ (by omega)]
theorem q_area_cg {g g' : Nat → Int32} {c0 : Nat} (hB : GB g) (h0 : nat g (106 + 21 * c0) = 0) (h : ∀ i, ¬ (109 + 21 * c0 ≤ i ∧ i < 123 + 21 * c0) → g' i = g i) {t k : Int32} : q_area g' t k = q_area g t k := by
  unfold q_area
  rw [nat_eq (h 101 (by omega))]
  refine sumN_cg _ ?_
  intro c hc
  obtain ⟨d1, -, -⟩ := hB.2.2.2.2.2 c (by omega)
  have := d1.2
  have := hB.1.2
  rw [q_in_cg hB h0 h hc, nat_eq (h (102 + 21 * c) (by omega)), h (9 + 6 * nat g (102 + 21 * c)) (by omega)]
theorem q_place_cg {g g' : Nat → Int32} {c0 : Nat} (hB : GB g) (h0 : nat g (106 + 21 * c0) = 0) (h : ∀ i, ¬ (109 + 21 * c0 ≤ i ∧ i < 123 + 21 * c0) → g' i = g i) {t ty : Nat} (ht : t < 12) (hty : ty < 6) : q_place g' t ty = q_place g t ty := by
  have f1 : ∀ k, q_class g' (nI t) (nI k) = q_class g (nI t) (nI k) := fun k => q_class_cg hB h0 h
  have f2 : ∀ k, q_fit g' t ty k = q_fit g t ty k := by
    intro k
    unfold q_fit q_kept q_room
    rw [q_area_cg hB h0 h, h (9 + 6 * ty) (by omega), h (44 + 5 * t) (by omega), h (45 + 5 * t) (by omega), h 0 (by omega)]
  have g1 : find9 (fun k => q_class g' (nI t) (nI k) == g' (8 + 6 * ty) && q_fit g' t ty k) 0 (nat g (45 + 5 * t)) = find9 (fun k => q_class g (nI t) (nI k) == g (8 + 6 * ty) && q_fit g t ty k) 0 (nat g (45 + 5 * t)) := find9_cg _ _ (fun j _ _ => by rw [f1, f2, h (8 + 6 * ty) (by omega)])
  have g2 : find9 (fun k => q_fit g' t ty k && decide (q_class g' (nI t) (nI k) < 0)) 0 (nat g (45 + 5 * t)) = find9 (fun k => q_fit g t ty k && decide (q_class g (nI t) (nI k) < 0)) 0 (nat g (45 + 5 * t)) := find9_cg _ _ (fun j _ _ => by rw [f1, f2])
  unfold q_place
  rw [nat_eq (h (45 + 5 * t) (by omega)), g1, g2]
