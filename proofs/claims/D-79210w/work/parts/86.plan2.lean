set_option maxRecDepth 100000
/-! A TYPE INTO A PLAN; fresh tokens -/
theorem AW.tok {M : MI} {G : Gl} {d : Nat} {Qr : Option AV → AH → Prop} {Qx : String → Nat → AH → Prop} {rc rs : Nat} {H : AH} {pc : Nat} {ls : List (Option AV)} {st : List AV} (O : Nat → Nat) (k : ∀ t, 1 ≤ t → (∀ a, kd H a ≠ 0 → O a < 8 * t) → AW M G d Qr Qx rc rs H pc ls st) : AW M G d Qr Qx rc rs H pc ls st := by
  intro mc ms p e R s m args below meth c hC Hc locs arr cells slots hR hS hl ha hc hs
  obtain ⟨ws, h1, h2, h3, h4⟩ := hR
  have hb : ∀ us : va_W, ∃ t, 1 ≤ t ∧ ∀ (k : Nat) (q : Nat × va_E), us[k]? = some q → O q.1 < 8 * t := by
    intro us
    induction us with
    | nil => exact ⟨1, Nat.le_refl _, fun k q h => by simp at h⟩
    | cons u us ih =>
      obtain ⟨t, t1, t2⟩ := ih
      refine ⟨t + O u.1 + 1, by omega, fun k q h => ?_⟩
      cases k with
      | zero =>
        simp at h
        subst h
        omega
      | succ k =>
        have := t2 k q (by simpa using h)
        omega
  obtain ⟨t, t1, t2⟩ := hb ws
  refine k t t1 (fun a q => ?_) mc ms p e R s m args below meth c hC Hc locs arr cells slots ⟨ws, h1, h2, h3, h4⟩ hS hl ha hc hs
  obtain ⟨j, hj⟩ := h3 a q
  exact t2 j _ hj
section
variable {G : Gl} {d : Nat} {Qr : Option AV → AH → Prop} {Qx : String → Nat → AH → Prop} {H : AH} {O : Nat → Nat} {p t n : Nat}
theorem HM.to {M : Nat} {hs hs' : Nat → Int32} {ky ky' vl vl' nd : Nat → Nat} (h : HM H M n hs ky vl nd) (h1 : ∀ i, i < n → hs i = hs' i) (h2 : ∀ i, i < n → ky i = ky' i) (h3 : ∀ i, i < n → vl i = vl' i) : HM H M n hs' ky' vl' nd := by
  obtain ⟨a1, a2, a3, a4, a5, a6⟩ := h
  refine ⟨a1, a2, a3, ?_, fun i hi => ?_, a6⟩
  · rcases a4 with q | ⟨tb, b1, b2, b3, b4, b5⟩
    · exact Or.inl q
    · refine Or.inr ⟨tb, b1, b2, b3, b4, fun b hb => ?_⟩
      rw [b5 b hb, find9_cg (q := fun j => bkt (hs' j) == b) n 0 (fun j _ hj => by rw [h1 j (by omega)])]
  · obtain ⟨b1, b2, b3, b4, b5⟩ := a5 i hi
    refine ⟨b1, by rw [← h1 i hi]; exact b2, by rw [← h2 i hi]; exact b3, by rw [← h3 i hi]; exact b4, ?_⟩
    rw [b5, find9_cg (q := fun j => bkt (hs' j) == bkt (hs' i)) (n - (i + 1)) (i + 1) (fun j _ hj => by rw [h1 j (by omega), h1 i hi])]
theorem SM_kd {M : Nat} {hs : Nat → Int32} {ky vl nd : Nat → Nat} (h : HM H M n hs ky vl nd) {a : Nat} (q : SM H M n nd a) : kd H a = 21 ∨ kd H a = 5100 ∨ kd H a = 27 := by
  rcases q with q | q | ⟨j, hj, q⟩
  · rw [q]
    exact Or.inl h.1
  · exact Or.inr (Or.inl (h.tb q))
  · rw [q]
    exact Or.inr (Or.inr (h.2.2.2.2.1 j hj).1)
theorem ST.to {a m : Nat} {cs cs' : Nat → Nat} (h : ST H a m cs) (hc : ∀ i, i < m → cs i = cs' i) : ST H a m cs' := by
  obtain ⟨b1, b2, b3, ⟨v, b4, b5, b7⟩, b8⟩ := h
  exact ⟨b1, b2, b3, ⟨v, b4, ⟨b5.1, fun i hi => by rw [← hc i hi]; exact b5.2 i hi⟩, b7⟩, by rw [← hsh_eq hc]; exact b8⟩
theorem nm_ag {g g' : Nat → Int32} {y : Nat} (hg : ∀ i, i < 6 → g' (4 + 6 * y + i) = g (4 + 6 * y + i)) : g' (7 + 6 * y) = g (7 + 6 * y) ∧ g' (8 + 6 * y) = g (8 + 6 * y) ∧ g' (9 + 6 * y) = g (9 + 6 * y) ∧ nmL g' y = nmL g y ∧ ∀ i, i < 6 → nmF g' y i = nmF g y i := by
  have e3 : g' (7 + 6 * y) = g (7 + 6 * y) := by have := hg 3 (by decide); rw [show 4 + 6 * y + 3 = 7 + 6 * y by omega] at this; exact this
  have e4 : g' (8 + 6 * y) = g (8 + 6 * y) := by have := hg 4 (by decide); rw [show 4 + 6 * y + 4 = 8 + 6 * y by omega] at this; exact this
  have e5 : g' (9 + 6 * y) = g (9 + 6 * y) := by have := hg 5 (by decide); rw [show 4 + 6 * y + 5 = 9 + 6 * y by omega] at this; exact this
  exact ⟨e3, e4, e5, nat_eq e3, fun i hi => nat_eq (hg i hi)⟩
theorem TyO.to {g g' : Nat → Int32} {y a nm : Nat} (h : TyO H O g y a nm) (hm : nmL g y ≤ 3) (hg : ∀ i, i < 6 → g' (4 + 6 * y + i) = g (4 + 6 * y + i)) : TyO H O g' y a nm := by
  obtain ⟨⟨a1, a2, a3, a4⟩, a5, a6, c1, c2, c3⟩ := h
  obtain ⟨e3, e4, e5, eL, eF⟩ := nm_ag hg
  refine ⟨⟨a1, a2, by rw [e4]; exact a3, by rw [e5]; exact a4⟩, a5, ?_, c1, c2, c3⟩
  rw [eL]
  exact a6.to (fun i hi => (eF i (by omega)).symm)
theorem TyX.to {l L M e : Nat} {g g' : Nat → Int32} {ty nm nd : Nat → Nat} (h : TyX G H O l L M n g e ty nm nd) (hm : ∀ y, y < n → nmL g y ≤ 3) (hg : ∀ y i, y < n → i < 6 → g' (4 + 6 * y + i) = g (4 + 6 * y + i)) : TyX G H O l L M n g' e ty nm nd := by
  obtain ⟨a1, a2, a3, a4, a5, a6⟩ := h
  refine ⟨a1, a2, a3, a4.to (fun y hy => ?_) (fun _ _ => rfl) (fun _ _ => rfl), a5, fun y hy => (a6 y hy).to (hm y hy) (fun i hi => hg y i hy hi)⟩
  obtain ⟨e3, e4, e5, eL, eF⟩ := nm_ag (fun i hi => hg y i hy hi)
  unfold tyH
  rw [eL, hsh_eq (cs := nmF g y) (cs' := nmF g' y) (fun i hi => (eF i (by have := hm y hy; omega)).symm)]
/-- a type that may come into a plan -/
def TyP (H : AH) (O : Nat → Nat) (g : Nat → Int32) (y a nm : Nat) : Prop := (kd H a = 17 ∧ gR H 64 a = some nm ∧ gI H 65 a = g (8 + 6 * y) ∧ gI H 66 a = g (9 + 6 * y)) ∧ O a = 0 ∧ ST H nm (nmL g y) (nmF g y) ∧ (O nm = 0 ∨ O nm = 6) ∧ (∀ v, gR H 113 nm = some v → O v = 0) ∧ (gI H 115 nm = 0 → O nm = 6) ∧ hsh (nmF g y) (nmL g y) ≠ 0
theorem TyO.pre {g : Nat → Int32} {y a nm : Nat} (h : TyO H O g y a nm) : TyP H O g y a nm := by
  obtain ⟨a1, a5, a6, c1, c2, c3⟩ := h
  refine ⟨a1, a5, a6, c2, c3, fun q => absurd q c1, fun q => ?_⟩
  rcases a6.2.2.2.2 with k | k
  · exact c1 (k.trans q)
  · exact c1 k.1
theorem upA_same {α : Type} {f : Nat → α} {n : Nat} : upA f n (f n) = f := by
  funext i
  unfold upA
  split
  · rename_i h
    rw [h]
  · rfl
theorem c_planAdd {tyL M trL caL drL e a nm0 : Nat} {sp ta wa : Int32} {g : Nat → Int32} {ty nm nd : Nat → Nat} (hd : 8 ≤ d) (ht : 1 ≤ t) (hP : PlF H O (8 * t + 1) p tyL M trL caL drL sp ta wa) (hT : TyX G H O (8 * t + 2) tyL M n g e ty nm nd) (hn : n < 6) (hO : TyP H O g n a nm0) (hnew : ∀ i, i < n → mtk (nmL g) (nmF g) (nmL g n) (nmF g n) i = false)
    (hQ : ∀ H' O' e' ty' nm' nd', Stq G (fun b => O b = 8 * t + 2 ∨ SH H nm0 b) H O H' O' → TyX G H' O' (8 * t + 2) tyL M (n + 1) g e' ty' nm' nd' → Qr none H') : AMet G d 3 42 yX2_add wX2_add H [vR (some p), vR (some a)] Qr Qx := by
  have hP0 := hP
  have hO0 := hO
  obtain ⟨⟨p1, p8, p9, p10, p11, p12, p13, p14, p15⟩, pO⟩ := hP
  obtain ⟨t1, t2, t3, t4, t5, t6⟩ := hT
  obtain ⟨⟨o1, o2, o3, o4⟩, o5, o6, o7, o8, o9, o10⟩ := hO
  have kr := t1.1
  have kM := t4.1
  refine AMet.of (M := mX2_add) (maxL := 4) (by first | rfl | decide +kernel) rfl (Nat.le_of_ble_eq_true rfl) ?_
  show AW mX2_add _ _ _ _ _ _ _ 0 [some (vR (some p)), some (vR (some a)), none, none] []
  refine r_aload_n (i := 0) dX2_add_0 rfl rfl ?_
  refine r_getR dX2_add_1 fR_X2_21 (by first | assumption | (simp only [kd_sI, kd_sR, kd_sA, kd_sQ, kd_sL, kd_sD, ln_sI, ln_sR, ln_sA, ln_sQ, ln_sL, ln_sD, gI_sR, gI_sA, gI_sQ, gI_sL, gI_sD, gR_sI, gR_sA, gR_sQ, gR_sL, gR_sD, gA_sI, gA_sR, gA_sQ, gA_sL, gA_sD, gQ_sI, gQ_sR, gQ_sA, gQ_sL, gQ_sD, gL_sI, gL_sR, gL_sA, gL_sQ, gL_sD]; assumption) | simp [kd_sI, kd_sR, kd_sA, kd_sQ, kd_sL, kd_sD, ln_sI, ln_sR, ln_sA, ln_sQ, ln_sL, ln_sD, gI_sR, gI_sA, gI_sQ, gI_sL, gI_sD, gR_sI, gR_sA, gR_sQ, gR_sL, gR_sD, gA_sI, gA_sR, gA_sQ, gA_sL, gA_sD, gQ_sI, gQ_sR, gQ_sA, gQ_sL, gQ_sD, gL_sI, gL_sR, gL_sA, gL_sQ, gL_sD, kd_nO, kd_nA, *]) (by first | assumption | exact gI_sIs | exact gR_sRs | with_reducible rfl | (simp only [kd_sI, kd_sR, kd_sA, kd_sQ, kd_sL, kd_sD, ln_sI, ln_sR, ln_sA, ln_sQ, ln_sL, ln_sD, gI_sR, gI_sA, gI_sQ, gI_sL, gI_sD, gR_sI, gR_sA, gR_sQ, gR_sL, gR_sD, gA_sI, gA_sR, gA_sQ, gA_sL, gA_sD, gQ_sI, gQ_sR, gQ_sA, gQ_sL, gQ_sD, gL_sI, gL_sR, gL_sA, gL_sQ, gL_sD]; first | done | assumption | with_reducible rfl) | rfl) ?_
  refine r_aload_n (i := 1) dX2_add_4 rfl rfl ?_
  refine r_getR dX2_add_5 fR_X2_84 (by first | assumption | (simp only [kd_sI, kd_sR, kd_sA, kd_sQ, kd_sL, kd_sD, ln_sI, ln_sR, ln_sA, ln_sQ, ln_sL, ln_sD, gI_sR, gI_sA, gI_sQ, gI_sL, gI_sD, gR_sI, gR_sA, gR_sQ, gR_sL, gR_sD, gA_sI, gA_sR, gA_sQ, gA_sL, gA_sD, gQ_sI, gQ_sR, gQ_sA, gQ_sL, gQ_sD, gL_sI, gL_sR, gL_sA, gL_sQ, gL_sD]; assumption) | simp [kd_sI, kd_sR, kd_sA, kd_sQ, kd_sL, kd_sD, ln_sI, ln_sR, ln_sA, ln_sQ, ln_sL, ln_sD, gI_sR, gI_sA, gI_sQ, gI_sL, gI_sD, gR_sI, gR_sA, gR_sQ, gR_sL, gR_sD, gA_sI, gA_sR, gA_sQ, gA_sL, gA_sD, gQ_sI, gQ_sR, gQ_sA, gQ_sL, gQ_sD, gL_sI, gL_sR, gL_sA, gL_sQ, gL_sD, kd_nO, kd_nA, *]) (by first | assumption | exact gI_sIs | exact gR_sRs | with_reducible rfl | (simp only [kd_sI, kd_sR, kd_sA, kd_sQ, kd_sL, kd_sD, ln_sI, ln_sR, ln_sA, ln_sQ, ln_sL, ln_sD, gI_sR, gI_sA, gI_sQ, gI_sL, gI_sD, gR_sI, gR_sA, gR_sQ, gR_sL, gR_sD, gA_sI, gA_sR, gA_sQ, gA_sL, gA_sD, gQ_sI, gQ_sR, gQ_sA, gQ_sL, gQ_sD, gL_sI, gL_sR, gL_sA, gL_sQ, gL_sD]; first | done | assumption | with_reducible rfl) | rfl) ?_
  refine r_aload_n (i := 0) dX2_add_8 rfl rfl ?_
  refine r_getR dX2_add_9 fR_X2_12 (by first | assumption | (simp only [kd_sI, kd_sR, kd_sA, kd_sQ, kd_sL, kd_sD, ln_sI, ln_sR, ln_sA, ln_sQ, ln_sL, ln_sD, gI_sR, gI_sA, gI_sQ, gI_sL, gI_sD, gR_sI, gR_sA, gR_sQ, gR_sL, gR_sD, gA_sI, gA_sR, gA_sQ, gA_sL, gA_sD, gQ_sI, gQ_sR, gQ_sA, gQ_sL, gQ_sD, gL_sI, gL_sR, gL_sA, gL_sQ, gL_sD]; assumption) | simp [kd_sI, kd_sR, kd_sA, kd_sQ, kd_sL, kd_sD, ln_sI, ln_sR, ln_sA, ln_sQ, ln_sL, ln_sD, gI_sR, gI_sA, gI_sQ, gI_sL, gI_sD, gR_sI, gR_sA, gR_sQ, gR_sL, gR_sD, gA_sI, gA_sR, gA_sQ, gA_sL, gA_sD, gQ_sI, gQ_sR, gQ_sA, gQ_sL, gQ_sD, gL_sI, gL_sR, gL_sA, gL_sQ, gL_sD, kd_nO, kd_nA, *]) (by first | assumption | exact gI_sIs | exact gR_sRs | with_reducible rfl | (simp only [kd_sI, kd_sR, kd_sA, kd_sQ, kd_sL, kd_sD, ln_sI, ln_sR, ln_sA, ln_sQ, ln_sL, ln_sD, gI_sR, gI_sA, gI_sQ, gI_sL, gI_sD, gR_sI, gR_sA, gR_sQ, gR_sL, gR_sD, gA_sI, gA_sR, gA_sQ, gA_sL, gA_sD, gQ_sI, gQ_sR, gQ_sA, gQ_sL, gQ_sD, gL_sI, gL_sR, gL_sA, gL_sQ, gL_sD]; first | done | assumption | with_reducible rfl) | rfl) ?_
  refine r_callV (As := []) (mc' := 0) (ms' := 0) dX2_add_12 k_X2_88 rfl (by first | assumption | (simp only [kd_sI, kd_sR, kd_sA, kd_sQ, kd_sL, kd_sD, ln_sI, ln_sR, ln_sA, ln_sQ, ln_sL, ln_sD, gI_sR, gI_sA, gI_sQ, gI_sL, gI_sD, gR_sI, gR_sA, gR_sQ, gR_sL, gR_sD, gA_sI, gA_sR, gA_sQ, gA_sL, gA_sD, gQ_sI, gQ_sR, gQ_sA, gQ_sL, gQ_sD, gL_sI, gL_sR, gL_sA, gL_sQ, gL_sD]; assumption) | simp [kd_sI, kd_sR, kd_sA, kd_sQ, kd_sL, kd_sD, ln_sI, ln_sR, ln_sA, ln_sQ, ln_sL, ln_sD, gI_sR, gI_sA, gI_sQ, gI_sL, gI_sD, gR_sI, gR_sA, gR_sQ, gR_sL, gR_sD, gA_sI, gA_sR, gA_sQ, gA_sL, gA_sD, gQ_sI, gQ_sR, gQ_sA, gQ_sL, gQ_sD, gL_sI, gL_sR, gL_sA, gL_sQ, gL_sD, kd_nO, kd_nA, *]) (T := TJ2) (N := 3) rfl (by first | assumption | omega) (by first | assumption | omega) (by first | assumption | omega) (Nat.le_of_ble_eq_true rfl) ?_
  refine s_size t1.1 t1.2.1 ?_
  show AW mX2_add G d Qr Qx _ _ H 15 _ _
  refine r_callS (As := [_]) (mc' := 0) (ms' := 0) dX2_add_15 k_X2_92 rfl (by first | assumption | omega) (by first | assumption | omega) (by first | assumption | omega) (Nat.le_of_ble_eq_true rfl) ?_
  refine s_valueOfC (by omega) ?_
  show AW mX2_add G d Qr Qx _ _ H 18 _ _
  refine r_callV (As := [_, _]) (mc' := 2) (ms' := 20) dX2_add_18 k_X2_98 rfl (by first | assumption | (simp only [kd_sI, kd_sR, kd_sA, kd_sQ, kd_sL, kd_sD, ln_sI, ln_sR, ln_sA, ln_sQ, ln_sL, ln_sD, gI_sR, gI_sA, gI_sQ, gI_sL, gI_sD, gR_sI, gR_sA, gR_sQ, gR_sL, gR_sD, gA_sI, gA_sR, gA_sQ, gA_sL, gA_sD, gQ_sI, gQ_sR, gQ_sA, gQ_sL, gQ_sD, gL_sI, gL_sR, gL_sA, gL_sQ, gL_sD]; assumption) | simp [kd_sI, kd_sR, kd_sA, kd_sQ, kd_sL, kd_sD, ln_sI, ln_sR, ln_sA, ln_sQ, ln_sL, ln_sD, gI_sR, gI_sA, gI_sQ, gI_sL, gI_sD, gR_sI, gR_sA, gR_sQ, gR_sL, gR_sD, gA_sI, gA_sR, gA_sQ, gA_sL, gA_sD, gQ_sI, gQ_sR, gQ_sA, gQ_sL, gQ_sD, gL_sI, gL_sR, gL_sA, gL_sQ, gL_sD, kd_nO, kd_nA, *]) (T := TJ4) (N := 8) rfl (by first | assumption | omega) (by first | assumption | omega) (by first | assumption | omega) (Nat.le_of_ble_eq_true rfl) ?_
  refine s_put (m := nmL g) (cs := nmF g) (by omega) t4 hn o6 (fun i hi => (t6 i hi).2.2.1) (fun i hi => rfl) hnew (fun H1 nd1 hK1 hM1 hS1 hh1 hnd1 hn1 htb1 => ?_)
  refine AW.st0 (fun z1 => ?_)
  have hk1 : ∀ b, SMk H M n nd nm0 b → kd H b = 21 ∨ kd H b = 5100 ∨ kd H b = 27 ∨ (b = nm0 ∧ gI H 115 nm0 = 0) := by
    intro b q
    rcases q with q | q
    · have := SM_kd t4 q
      omega
    · exact Or.inr (Or.inr (Or.inr q))
  have hnm : kd H nm0 = 24 := o6.1
  have hne : ∀ b, kd H b ≠ 21 → kd H b ≠ 5100 → kd H b ≠ 27 → kd H b ≠ 24 → ¬ SMk H M n nd nm0 b := by
    intro b h1 h2 h3 h4 q
    rcases hk1 b q with k | k | k | k
    · exact h1 k
    · exact h2 k
    · exact h3 k
    · exact h4 (by rw [k.1]; exact hnm)
  have s1 : Stq G (fun b => O b = 8 * t + 2 ∨ SH H nm0 b) H O H1 (rlb O H (8 * t + 2)) := by
    refine Stq.rl _ (hK1.mono (fun b hb q => ?_)) z1
    rcases q with (q | q | ⟨j, hj, q⟩) | q
    · exact Or.inl (by rw [q]; exact t5.1)
    · exact Or.inl (t5.2.1 b q)
    · exact Or.inl (by rw [q]; exact t5.2.2 j hj)
    · exact Or.inr q
  have hSI : ∀ b, kd H b ≠ 0 → (O b = 8 * t + 2 ∨ SH H nm0 b) → O b ≠ 0 ∧ (O b = 6 → gI H 115 b = 0) := by
    intro b hb q
    rcases q with q | q
    · exact ⟨by omega, fun k => by omega⟩
    · have := o9 q.2
      rw [q.1]
      exact ⟨by omega, fun _ => q.2⟩
  have hP1 := hP0.ks s1 (fun b hb q => by
    rcases q with q | q
    · omega
    · have := o9 q.2
      rw [q.1]
      omega)
  obtain ⟨O1, hO1⟩ : ∃ O1, O1 = rlb O H (8 * t + 2) := ⟨_, rfl⟩
  rw [← hO1] at s1 hP1
  have fO1 : ∀ b, kd H b = 0 → O1 b = 8 * t + 2 := fun b hb => by rw [hO1]; exact rlb_f hb
  obtain ⟨⟨q1, q8, q9, q10, q11, q12, q13, q14, q15⟩, qO⟩ := hP1
  have l1 := t1.ks hK1 (hne tyL (by rw [kr]; decide) (by rw [kr]; decide) (by rw [kr]; decide) (by rw [kr]; decide)) (fun k => hne e (by rw [k]; decide) (by rw [k]; decide) (by rw [k]; decide) (by rw [k]; decide))
  have w1 := t3.ks t1 s1
  have ty1 : ∀ y, y < n → TyO H1 O1 g y (ty y) (nm y) := fun y hy => (t6 y hy).ks s1 hSI
  have ea := hK1.at (a := a) (by rw [o1]; decide) (hne a (by rw [o1]; decide) (by rw [o1]; decide) (by rw [o1]; decide) (by rw [o1]; decide))
  have m1 : OwM H1 O1 (8 * t + 2) M (n + 1) nd1 := by
    refine ⟨by rw [s1.2.1 M (by rw [kM]; decide)]; exact t5.1, fun tb q => ?_, fun i hi => ?_⟩
    · rcases htb1 tb q with k | k
      · rw [s1.2.1 tb (by rw [t4.tb k]; decide)]
        exact t5.2.1 tb k
      · exact fO1 tb k
    · by_cases hin : i = n
      · rw [hin]
        exact fO1 _ hn1
      · rw [hnd1 i (by omega), s1.2.1 _ (by rw [(t4.2.2.2.2.1 i (by omega)).1]; decide)]
        exact t5.2.2 i (by omega)
  have tyn : TyO H1 O1 g n a nm0 := by
    refine ⟨⟨by rw [at_kd ea]; exact o1, by rw [at_gR ea]; exact o2, by rw [at_gI ea]; exact o3, by rw [at_gI ea]; exact o4⟩, by rw [s1.2.1 a (by rw [o1]; decide)]; exact o5, hS1.1, by rw [hh1]; exact o10, by rw [s1.2.1 nm0 (by rw [hnm]; decide)]; exact o7, fun v hv => ?_⟩
    rw [hS1.2] at hv
    obtain ⟨v2, hv2, hb2, -⟩ := o6.2.2.2.1
    rw [hv] at hv2
    cases hv2
    rw [s1.2.1 v (by rw [hb2.1]; decide)]
    exact o8 v hv
  have hm1 : HM H1 M (n + 1) (tyH g) (upA nm n nm0) (ivO G) nd1 := hM1.to (fun i _ => by rw [show sprd (hsh (nmF g n) (nmL g n)) = tyH g n from rfl, upA_same]) (fun _ _ => rfl) (fun i _ => by rw [upA_same])
  have ka : isObj G H1 a := Or.inl ⟨by rw [at_kd ea, o1]; decide, by rw [at_kd ea, o1]; decide⟩
  show AW mX2_add G d Qr Qx _ _ H1 21 _ _
  have kr1 := l1.1
  refine r_castN dX2_add_21 ?_
  refine r_astore_n (i := 2) dX2_add_24 rfl (Nat.le_of_ble_eq_true rfl) (by simp only [lset]; rfl) ?_
  refine r_aload_n (i := 0) dX2_add_25 rfl rfl ?_
  refine r_getR dX2_add_26 fR_X2_12 (by first | assumption | (simp only [kd_sI, kd_sR, kd_sA, kd_sQ, kd_sL, kd_sD, ln_sI, ln_sR, ln_sA, ln_sQ, ln_sL, ln_sD, gI_sR, gI_sA, gI_sQ, gI_sL, gI_sD, gR_sI, gR_sA, gR_sQ, gR_sL, gR_sD, gA_sI, gA_sR, gA_sQ, gA_sL, gA_sD, gQ_sI, gQ_sR, gQ_sA, gQ_sL, gQ_sD, gL_sI, gL_sR, gL_sA, gL_sQ, gL_sD]; assumption) | simp [kd_sI, kd_sR, kd_sA, kd_sQ, kd_sL, kd_sD, ln_sI, ln_sR, ln_sA, ln_sQ, ln_sL, ln_sD, gI_sR, gI_sA, gI_sQ, gI_sL, gI_sD, gR_sI, gR_sA, gR_sQ, gR_sL, gR_sD, gA_sI, gA_sR, gA_sQ, gA_sL, gA_sD, gQ_sI, gQ_sR, gQ_sA, gQ_sL, gQ_sD, gL_sI, gL_sR, gL_sA, gL_sQ, gL_sD, kd_nO, kd_nA, *]) (by first | assumption | exact gI_sIs | exact gR_sRs | with_reducible rfl | (simp only [kd_sI, kd_sR, kd_sA, kd_sQ, kd_sL, kd_sD, ln_sI, ln_sR, ln_sA, ln_sQ, ln_sL, ln_sD, gI_sR, gI_sA, gI_sQ, gI_sL, gI_sD, gR_sI, gR_sA, gR_sQ, gR_sL, gR_sD, gA_sI, gA_sR, gA_sQ, gA_sL, gA_sD, gQ_sI, gQ_sR, gQ_sA, gQ_sL, gQ_sD, gL_sI, gL_sR, gL_sA, gL_sQ, gL_sD]; first | done | assumption | with_reducible rfl) | rfl) ?_
  refine r_aload_n (i := 1) dX2_add_29 rfl rfl ?_
  refine r_callV (As := [_]) (mc' := 1) (ms' := 22) dX2_add_30 k_X2_68 rfl (by first | assumption | (simp only [kd_sI, kd_sR, kd_sA, kd_sQ, kd_sL, kd_sD, ln_sI, ln_sR, ln_sA, ln_sQ, ln_sL, ln_sD, gI_sR, gI_sA, gI_sQ, gI_sL, gI_sD, gR_sI, gR_sA, gR_sQ, gR_sL, gR_sD, gA_sI, gA_sR, gA_sQ, gA_sL, gA_sD, gQ_sI, gQ_sR, gQ_sA, gQ_sL, gQ_sD, gL_sI, gL_sR, gL_sA, gL_sQ, gL_sD]; assumption) | simp [kd_sI, kd_sR, kd_sA, kd_sQ, kd_sL, kd_sD, ln_sI, ln_sR, ln_sA, ln_sQ, ln_sL, ln_sD, gI_sR, gI_sA, gI_sQ, gI_sL, gI_sD, gR_sI, gR_sA, gR_sQ, gR_sL, gR_sD, gA_sI, gA_sR, gA_sQ, gA_sL, gA_sD, gQ_sI, gQ_sR, gQ_sA, gQ_sL, gQ_sD, gL_sI, gL_sR, gL_sA, gL_sQ, gL_sD, kd_nO, kd_nA, *]) (T := TJ2) (N := 3) rfl (by first | assumption | omega) (by first | assumption | omega) (by first | assumption | omega) (Nat.le_of_ble_eq_true rfl) ?_
  refine s_add (by omega) l1 (by omega) ka (fun H2 e2 hK2 he2 hL2 => ?_)
  refine AW.st0 (fun z2 => ?_)
  have s2 : Stq G (fun b => O1 b = 8 * t + 2) H1 O1 H2 (rlb O1 H1 (8 * t + 2)) := by
    refine Stq.rl _ (hK2.mono (fun b hb q => ?_)) z2
    rcases q with q | q
    · rw [q]
      exact w1.1
    · rw [q] at hb ⊢
      exact w1.2 hb
  obtain ⟨O2, hO2⟩ : ∃ O2, O2 = rlb O1 H1 (8 * t + 2) := ⟨_, rfl⟩
  rw [← hO2] at s2
  have hne2 : ∀ b, kd H1 b ≠ 20 → kd H1 b ≠ 4096 → kd H1 b ≠ 0 → ¬ SL tyL e b := by
    intro b h1 h2 h3 q
    rcases q with q | q
    · rw [q] at h1
      exact h1 kr1
    · rcases l1.2.2.2.2 with k | k
      · rw [q, k.1] at h3
        exact h3 z1
      · rw [q] at h2
        exact h2 k.1
  have s12 : Stq G (fun b => O b = 8 * t + 2 ∨ SH H nm0 b) H O H2 O2 := s1.tr2 s2 (fun b hb q => Or.inl (by rw [← s1.2.1 b hb]; exact q))
  have ty2 : ∀ y a' nm', TyO H1 O1 g y a' nm' → TyO H2 O2 g y a' nm' := fun y a' nm' h => h.ks s2 (fun b hb q => ⟨by omega, fun k => by omega⟩)
  have hm2 : HM H2 M (n + 1) (tyH g) (upA nm n nm0) (ivO G) nd1 ∧ OwM H2 O2 (8 * t + 2) M (n + 1) nd1 := by
    have kM1 := hm1.1
    refine ⟨hm1.ks hK2 (hne2 M (by rw [kM1]; decide) (by rw [kM1]; decide) (by rw [kM1]; decide)) (fun tb q => hne2 tb (by rw [hm1.tb q]; decide) (by rw [hm1.tb q]; decide) (by rw [hm1.tb q]; decide)) (fun i hi => by have k := (hm1.2.2.2.2.1 i hi).1; exact hne2 _ (by rw [k]; decide) (by rw [k]; decide) (by rw [k]; decide)), by rw [s2.2.1 M (by rw [kM1]; decide)]; exact m1.1, fun tb q => ?_, fun i hi => ?_⟩
    · have eM := hK2.at (a := M) (by rw [kM1]; decide) (hne2 M (by rw [kM1]; decide) (by rw [kM1]; decide) (by rw [kM1]; decide))
      rw [at_gR eM] at q
      rw [s2.2.1 tb (by rw [hm1.tb q]; decide)]
      exact m1.2.1 tb q
    · have k := (hm1.2.2.2.2.1 i hi).1
      rw [s2.2.1 _ (by rw [k]; decide)]
      exact m1.2.2 i hi
  show AW mX2_add G d Qr Qx _ _ H2 33 _ _
  refine r_istore_n (i := 3) dX2_add_33 rfl (Nat.le_of_ble_eq_true rfl) (by simp only [lset]; rfl) ?_
  refine r_return dX2_add_34 rfl ?_
  refine hQ H2 O2 e2 _ _ nd1 s12 ⟨hL2, by omega, ⟨by rw [s2.2.1 _ (by rw [kr1]; decide)]; exact w1.1, fun k => ?_⟩, hm2.1, hm2.2, fun y hy => ?_⟩
  · rcases he2 with k2 | k2
    · by_cases hk0 : kd H1 e2 = 0
      · rw [hO2]
        exact rlb_f hk0
      · rw [s2.2.1 _ hk0, k2]
        exact w1.2 (by rw [← k2]; exact hk0)
    · rw [hO2]
      exact rlb_f k2
  · by_cases hyn : y = n
    · have e1 : va_up ty n a y = a := by unfold va_up; rw [if_pos hyn]
      have e2 : upA nm n nm0 y = nm0 := by unfold upA; rw [if_pos hyn]
      rw [e1, e2, hyn]
      exact ty2 n a nm0 tyn
    · have e1 : va_up ty n a y = ty y := by unfold va_up; rw [if_neg hyn]
      have e2 : upA nm n nm0 y = nm y := by unfold upA; rw [if_neg hyn]
      rw [e1, e2]
      exact ty2 y _ _ (ty1 y (by omega))
end
