set_option maxRecDepth 100000
/-! THE INVARIANT of g -/
def GV (g : Nat → Int32) : Prop := isN g 0 51 ∧ isN g 1 21 ∧ ∀ t, t < nat g 40 → isN g (43 + 5 * t) 100 ∧ isN g (44 + 5 * t) 1000 ∧ 10 ≤ nat g (44 + 5 * t)
def sameName (g : Nat → Int32) (y z : Nat) : Prop := nat g (7 + 6 * y) = nat g (7 + 6 * z) ∧ ∀ i, i < nat g (7 + 6 * y) → g (4 + 6 * y + i) = g (4 + 6 * z + i)
def GY (g : Nat → Int32) : Prop := (∀ y, y < nat g 3 → isN g (7 + 6 * y) 4 ∧ 0 < nat g (7 + 6 * y) ∧ (∀ i, i < nat g (7 + 6 * y) → isN g (4 + 6 * y + i) 123 ∧ 97 ≤ nat g (4 + 6 * y + i)) ∧ isN g (8 + 6 * y) 3 ∧ isN g (9 + 6 * y) 100) ∧ ∀ y z, y < z → z < nat g 3 → ¬ sameName g y z
def stepsL (g : Nat → Int32) (c : Nat) : List Nat := (List.range (nat g (106 + 21 * c))).map (fun k => nat g (109 + 21 * c + k))
def GS (g : Nat → Int32) : Prop := ∀ c, c < nat g 101 → isN g (105 + 21 * c) 3 ∧ (g (105 + 21 * c) = 0 → g (107 + 21 * c) = 0 ∧ g (108 + 21 * c) = -1)
def GR (g : Nat → Int32) : Prop := ∀ c, c < nat g 101 → (g (105 + 21 * c) ≠ 0 → walkP g (nat g (103 + 21 * c)) (stepsL g c) = some (nat g (104 + 21 * c))) ∧ (stepsL g c).Nodup ∧ ∀ k, k < nat g (106 + 21 * c) → isN g (116 + 21 * c + k) (nat g (45 + 5 * nat g (109 + 21 * c + k)))
def GK (g : Nat → Int32) : Prop := ∀ c, c < nat g 101 → ∀ k, k < nat g (106 + 21 * c) → q_class g (g (109 + 21 * c + k)) (g (116 + 21 * c + k)) = g (8 + 6 * nat g (102 + 21 * c))
def IG (g : Nat → Int32) : Prop := GB g ∧ GT g ∧ GC g ∧ GA g ∧ GD g ∧ ZT g ∧ GV g ∧ GY g ∧ GS g ∧ GR g ∧ GK g
/-- agreement on a range -/
def Ag (g g' : Nat → Int32) (a b : Nat) : Prop := ∀ i, a ≤ i → i < b → g' i = g i
theorem Ag.n {g g' : Nat → Int32} {a b i : Nat} (h : Ag g g' a b) (h1 : a ≤ i) (h2 : i < b) : nat g' i = nat g i := nat_eq (h i h1 h2)
theorem Ag.i {g g' : Nat → Int32} {a b i k : Nat} (h : Ag g g' a b) (h1 : a ≤ i) (h2 : i < b) (q : isN g i k) : isN g' i k := isN_eq (h i h1 h2) q
theorem GB_ag {g g' : Nat → Int32} (hB : GB g) (hY : Ag g g' 3 4) (hT : Ag g g' 40 101) (hC : Ag g g' 101 354) (hD : Ag g g' 354 355) : GB g' := by
  obtain ⟨b1, b2, b3, b4, b5, b6⟩ := hB
  have hC2 := b3.2
  have hR2 := b2.2
  refine ⟨hY.i (by omega) (by omega) b1, hT.i (by omega) (by omega) b2, hC.i (by omega) (by omega) b3, hD.i (by omega) (by omega) b4, ?_, ?_⟩
  · intro t ht
    rw [hT.n (by omega) (by omega)] at ht
    rw [hT.n (by omega) (by omega)]
    exact ⟨hT.i (by omega) (by omega) (b5 t ht).1, (b5 t ht).2⟩
  · intro c hc
    rw [hC.n (by omega) (by omega)] at hc
    obtain ⟨d1, d2, d3⟩ := b6 c hc
    have := d2.2
    rw [hY.n (i := 3) (by omega) (by omega), hT.n (i := 40) (by omega) (by omega), hC.n (i := 106 + 21 * c) (by omega) (by omega)]
    exact ⟨hC.i (by omega) (by omega) d1, hC.i (by omega) (by omega) d2, fun k hk => hC.i (by omega) (by omega) (d3 k hk)⟩
theorem GT_ag {g g' : Nat → Int32} (hB : GB g) (h : GT g) (hT : Ag g g' 40 101) : GT g' := by
  have hR2 := hB.2.1.2
  intro t ht
  rw [hT.n (by omega) (by omega)] at ht
  obtain ⟨a, b, c⟩ := h t ht
  rw [hT.n (by omega) (by omega), hT.n (by omega) (by omega)]
  exact ⟨hT.i (by omega) (by omega) a, hT.i (by omega) (by omega) b, c⟩
theorem GC_ag {g g' : Nat → Int32} (hB : GB g) (h : GC g) (hC : Ag g g' 101 354) : GC g' := by
  have hC2 := hB.2.2.1.2
  intro c hc
  rw [hC.n (by omega) (by omega)] at hc
  obtain ⟨a, b, e⟩ := h c hc
  rw [hC.n (by omega) (by omega), hC.n (by omega) (by omega)]
  exact ⟨hC.i (by omega) (by omega) a, hC.i (by omega) (by omega) b, e⟩
theorem GA_ag {g g' : Nat → Int32} (hB : GB g) (h : GA g) (hC : Ag g g' 101 354) : GA g' := by
  have hC2 := hB.2.2.1.2
  intro c hc h0
  rw [hC.n (by omega) (by omega)] at hc
  rw [hC _ (by omega) (by omega)] at h0
  rw [hC.n (by omega) (by omega)]
  exact h c hc h0
theorem GD_ag {g g' : Nat → Int32} (hB : GB g) (h : GD g) (hD : Ag g g' 354 385) : GD g' := by
  have hN2 := hB.2.2.2.1.2
  intro x hx
  rw [hD.n (by omega) (by omega)] at hx
  exact hD.i (by omega) (by omega) (h x hx)
theorem GV_ag {g g' : Nat → Int32} (hB : GB g) (h : GV g) (h0 : isN g' 0 51) (h1 : isN g' 1 21) (hT : Ag g g' 40 101) : GV g' := by
  have hR2 := hB.2.1.2
  refine ⟨h0, h1, ?_⟩
  intro t ht
  rw [hT.n (by omega) (by omega)] at ht
  obtain ⟨a, b, c⟩ := h.2.2 t ht
  rw [hT.n (by omega) (by omega)]
  exact ⟨hT.i (by omega) (by omega) a, hT.i (by omega) (by omega) b, c⟩
theorem GY_ag {g g' : Nat → Int32} (hB : GB g) (h : GY g) (hY : Ag g g' 3 40) : GY g' := by
  have hY2 := hB.1.2
  obtain ⟨h1, h2⟩ := h
  have e3 : nat g' 3 = nat g 3 := hY.n (by omega) (by omega)
  refine ⟨?_, ?_⟩
  · intro y hy
    rw [e3] at hy
    obtain ⟨a, b, c, d, e⟩ := h1 y hy
    have := a.2
    rw [hY.n (i := 7 + 6 * y) (by omega) (by omega)]
    refine ⟨hY.i (by omega) (by omega) a, b, ?_, hY.i (by omega) (by omega) d, hY.i (by omega) (by omega) e⟩
    intro i hi
    rw [hY.n (by omega) (by omega)]
    exact ⟨hY.i (by omega) (by omega) (c i hi).1, (c i hi).2⟩
  · intro y z hyz hz hs
    rw [e3] at hz
    have ay := (h1 y (by omega)).1.2
    refine h2 y z hyz hz ?_
    obtain ⟨s1, s2⟩ := hs
    rw [hY.n (i := 7 + 6 * y) (by omega) (by omega), hY.n (i := 7 + 6 * z) (by omega) (by omega)] at s1
    rw [hY.n (i := 7 + 6 * y) (by omega) (by omega)] at s2
    refine ⟨s1, fun i hi => ?_⟩
    have := s2 i hi
    rw [hY _ (by omega) (by omega), hY _ (by omega) (by omega)] at this
    exact this
theorem GS_ag {g g' : Nat → Int32} (hB : GB g) (h : GS g) (hC : Ag g g' 101 354) : GS g' := by
  have hC2 := hB.2.2.1.2
  intro c hc
  rw [hC.n (by omega) (by omega)] at hc
  obtain ⟨a, b⟩ := h c hc
  rw [hC (105 + 21 * c) (by omega) (by omega), hC (107 + 21 * c) (by omega) (by omega), hC (108 + 21 * c) (by omega) (by omega)]
  exact ⟨hC.i (by omega) (by omega) a, b⟩
theorem ed_ag {g g' : Nat → Int32} {t p : Nat} (ht : t < 12) (hT : Ag g g' 40 101) : ed g' t p = ed g t p := by
  unfold ed
  rw [hT.n (i := 41 + 5 * t) (by omega) (by omega), hT.n (i := 42 + 5 * t) (by omega) (by omega)]
theorem walkP_ag {g g' : Nat → Int32} (hT : Ag g g' 40 101) : ∀ (l : List Nat) (p : Nat), (∀ t, t ∈ l → t < 12) → walkP g' p l = walkP g p l := by
  intro l
  induction l with
  | nil => intro p _; rfl
  | cons t l ih =>
    intro p h
    unfold walkP
    rw [ed_ag (h t List.mem_cons_self) hT]
    cases ed g t p with
    | none => rfl
    | some o => exact ih o (fun x hx => h x (List.mem_cons_of_mem _ hx))
theorem stepsL_ag {g g' : Nat → Int32} (hB : GB g) {c : Nat} (hc : c < nat g 101) (hC : Ag g g' 101 354) : stepsL g' c = stepsL g c := by
  have hC2 := hB.2.2.1.2
  have hk := (hB.2.2.2.2.2 c hc).2.1.2
  unfold stepsL
  rw [hC.n (i := 106 + 21 * c) (by omega) (by omega)]
  refine List.map_congr_left ?_
  intro k hk2
  rw [List.mem_range] at hk2
  exact hC.n (by omega) (by omega)
theorem stepsL_lt {g : Nat → Int32} (hB : GB g) {c : Nat} (hc : c < nat g 101) : ∀ t, t ∈ stepsL g c → t < nat g 40 := by
  intro t ht
  unfold stepsL at ht
  rw [List.mem_map] at ht
  obtain ⟨k, hk, rfl⟩ := ht
  rw [List.mem_range] at hk
  exact ((hB.2.2.2.2.2 c hc).2.2 k hk).2
theorem GR_ag {g g' : Nat → Int32} (hB : GB g) (h : GR g) (hT : Ag g g' 40 101) (hC : Ag g g' 101 354) : GR g' := by
  have hC2 := hB.2.2.1.2
  have hR2 := hB.2.1.2
  intro c hc
  rw [hC.n (by omega) (by omega)] at hc
  obtain ⟨a, b, e⟩ := h c hc
  obtain ⟨-, d2, d3⟩ := hB.2.2.2.2.2 c hc
  have := d2.2
  rw [hC (105 + 21 * c) (by omega) (by omega), stepsL_ag hB hc hC, hC.n (i := 103 + 21 * c) (by omega) (by omega), hC.n (i := 104 + 21 * c) (by omega) (by omega), hC.n (i := 106 + 21 * c) (by omega) (by omega), walkP_ag hT _ _ (fun t ht => by have := stepsL_lt hB hc t ht; omega)]
  refine ⟨a, b, ?_⟩
  intro k hk
  have hs := (d3 k hk).2
  rw [hC.n (i := 109 + 21 * c + k) (by omega) (by omega), hT.n (i := 45 + 5 * nat g (109 + 21 * c + k)) (by omega) (by omega)]
  exact hC.i (by omega) (by omega) (e k hk)
theorem q_step_ag {g g' : Nat → Int32} (hB : GB g) (hC : Ag g g' 101 354) {c : Nat} (hc : c < nat g 101) {t : Int32} : q_step g' c t = q_step g c t := by
  have hC2 := hB.2.2.1.2
  have hk := (hB.2.2.2.2.2 c hc).2.1.2
  unfold q_step
  rw [hC.n (i := 106 + 21 * c) (by omega) (by omega)]
  exact find9_cg _ _ (fun j _ hj => by rw [hC (109 + 21 * c + j) (by omega) (by omega)])
theorem q_in_ag {g g' : Nat → Int32} (hB : GB g) (hC : Ag g g' 101 354) {c : Nat} (hc : c < nat g 101) {t k : Int32} : q_in g' t k c = q_in g t k c := by
  have hC2 := hB.2.2.1.2
  have hk := (hB.2.2.2.2.2 c hc).2.1.2
  unfold q_in
  rw [q_step_ag hB hC hc]
  cases hs : q_step g c t with
  | none => rfl
  | some j =>
    dsimp only
    have := (find9_lt hs).2.1
    rw [hC (116 + 21 * c + j) (by omega) (by omega)]
theorem q_class_ag {g g' : Nat → Int32} (hB : GB g) (hY : Ag g g' 4 40 ∨ ∀ c, c < nat g 101 → Ag g g' (4 + 6 * nat g (102 + 21 * c)) (10 + 6 * nat g (102 + 21 * c))) (hC : Ag g g' 101 354) {t k : Int32} : q_class g' t k = q_class g t k := by
  have hC2 := hB.2.2.1.2
  have hY2 := hB.1.2
  unfold q_class
  rw [hC.n (i := 101) (by omega) (by omega), find9_cg (q := q_in g t k) _ _ (fun j _ hj => q_in_ag hB hC (by omega))]
  cases hf : find9 (q_in g t k) 0 (nat g 101) with
  | none => rfl
  | some c =>
    dsimp only
    have hc := (find9_lt hf).2.1
    have hy := (hB.2.2.2.2.2 c (by omega)).1.2
    rw [hC.n (i := 102 + 21 * c) (by omega) (by omega)]
    rcases hY with h | h
    · exact h _ (by omega) (by omega)
    · exact h c (by omega) _ (by omega) (by omega)
theorem q_area_ag {g g' : Nat → Int32} (hB : GB g) (hY : Ag g g' 4 40 ∨ ∀ c, c < nat g 101 → Ag g g' (4 + 6 * nat g (102 + 21 * c)) (10 + 6 * nat g (102 + 21 * c))) (hC : Ag g g' 101 354) {t k : Int32} : q_area g' t k = q_area g t k := by
  have hC2 := hB.2.2.1.2
  have hY2 := hB.1.2
  unfold q_area
  rw [hC.n (i := 101) (by omega) (by omega)]
  refine sumN_cg _ (fun c hc => ?_)
  have hy := (hB.2.2.2.2.2 c (by omega)).1.2
  rw [q_in_ag hB hC hc, hC.n (i := 102 + 21 * c) (by omega) (by omega)]
  rcases hY with h | h
  · rw [h (9 + 6 * nat g (102 + 21 * c)) (by omega) (by omega)]
  · rw [h c hc (9 + 6 * nat g (102 + 21 * c)) (by omega) (by omega)]
theorem GK_ag {g g' : Nat → Int32} (hB : GB g) (h : GK g) (hY : Ag g g' 4 40 ∨ ∀ c, c < nat g 101 → Ag g g' (4 + 6 * nat g (102 + 21 * c)) (10 + 6 * nat g (102 + 21 * c))) (hC : Ag g g' 101 354) : GK g' := by
  have hC2 := hB.2.2.1.2
  have hY2 := hB.1.2
  intro c hc k hk
  rw [hC.n (i := 101) (by omega) (by omega)] at hc
  rw [hC.n (i := 106 + 21 * c) (by omega) (by omega)] at hk
  obtain ⟨d1, d2, -⟩ := hB.2.2.2.2.2 c hc
  have := d2.2
  have := d1.2
  rw [q_class_ag hB hY hC, hC (109 + 21 * c + k) (by omega) (by omega), hC (116 + 21 * c + k) (by omega) (by omega), hC.n (i := 102 + 21 * c) (by omega) (by omega), h c hc k hk]
  rcases hY with h | h
  · exact (h _ (by omega) (by omega)).symm
  · exact (h c hc _ (by omega) (by omega)).symm
theorem IG_low {g g' : Nat → Int32} (h : IG g) (h2 : ∀ i, 2 ≤ i → g' i = g i) (h0 : isN g' 0 51) (h1 : isN g' 1 21) : IG g' := by
  obtain ⟨i1, i2, i3, i4, i5, i6, i7, i8, i9, i10, i11⟩ := h
  have ag : ∀ a b, 2 ≤ a → Ag g g' a b := fun a b ha i hi _ => h2 i (by omega)
  exact ⟨GB_ag i1 (ag _ _ (by omega)) (ag _ _ (by omega)) (ag _ _ (by omega)) (ag _ _ (by omega)), GT_ag i1 i2 (ag _ _ (by omega)), GC_ag i1 i3 (ag _ _ (by omega)), GA_ag i1 i4 (ag _ _ (by omega)), GD_ag i1 i5 (ag _ _ (by omega)), fun i hi => by rw [h2 i (by omega)]; exact i6 i hi, GV_ag i1 i7 h0 h1 (ag _ _ (by omega)), GY_ag i1 i8 (ag _ _ (by omega)), GS_ag i1 i9 (ag _ _ (by omega)), GR_ag i1 i10 (ag _ _ (by omega)) (ag _ _ (by omega)), GK_ag i1 i11 (Or.inl (ag _ _ (by omega))) (ag _ _ (by omega))⟩
theorem isN_inB {v : Int32} {n b : Nat} (h : inB v (nI 0) (nI n) = true) (hn : n < b) (hb : b < 65536) {g : Nat → Int32} {i : Nat} (hg : g i = v) : isN g i b := by
  obtain ⟨j, hj, rfl, -⟩ := inB_c h (by omega)
  exact (isN_of hg (by omega) (by omega)).1
theorem IG_spare {g : Nat → Int32} {v : Int32} (h : IG g) (hv : inB v (nI 0) (nI 50) = true) : IG (upd g 0 v) := by
  have h7 := h.2.2.2.2.2.2.1
  exact IG_low h (fun i hi => upd_n (by omega)) (isN_inB hv (by decide) (by decide) upd_s) (isN_eq (upd_n (by decide)) h7.2.1)
theorem IG_tail {g : Nat → Int32} {v : Int32} (h : IG g) (hv : inB v (nI 0) (nI 20) = true) : IG (upd g 1 v) := by
  have h7 := h.2.2.2.2.2.2.1
  exact IG_low h (fun i hi => upd_n (by omega)) (isN_eq (upd_n (by decide)) h7.1) (isN_inB hv (by decide) (by decide) upd_s)
theorem IG_waste {g : Nat → Int32} {v : Int32} (h : IG g) : IG (upd g 2 v) := by
  obtain ⟨i1, i2, i3, i4, i5, i6, i7, i8, i9, i10, i11⟩ := h
  have h2 : ∀ i, 3 ≤ i → upd g 2 v i = g i := fun i hi => upd_n (by omega)
  have ag : ∀ a b, 3 ≤ a → Ag g (upd g 2 v) a b := fun a b ha i hi _ => h2 i (by omega)
  exact ⟨GB_ag i1 (ag _ _ (by omega)) (ag _ _ (by omega)) (ag _ _ (by omega)) (ag _ _ (by omega)), GT_ag i1 i2 (ag _ _ (by omega)), GC_ag i1 i3 (ag _ _ (by omega)), GA_ag i1 i4 (ag _ _ (by omega)), GD_ag i1 i5 (ag _ _ (by omega)), fun i hi => by rw [h2 i (by omega)]; exact i6 i hi, GV_ag i1 i7 (isN_eq (upd_n (by decide)) i7.1) (isN_eq (upd_n (by decide)) i7.2.1) (ag _ _ (by omega)), GY_ag i1 i8 (ag _ _ (by omega)), GS_ag i1 i9 (ag _ _ (by omega)), GR_ag i1 i10 (ag _ _ (by omega)) (ag _ _ (by omega)), GK_ag i1 i11 (Or.inl (ag _ _ (by omega))) (ag _ _ (by omega))⟩
