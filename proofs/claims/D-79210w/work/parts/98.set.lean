set_option maxRecDepth 100000
/-! PARTS OF A PLAN CHANGE -/
section Set
variable {G : Gl} {H H' : AH} {O : Nat → Nat} {l L n e : Nat}
theorem TrX.set {tv : Nat → TV} {tr tc tf tu : Nat → Nat} {i : Nat} {v : TV} (h : TrX G H O l L n tv e tr tc tf tu) (hi : i < n) (hK : Ks (TrA (tc i) (tf i) (tu i)) H H') (z : kd H' (gSt G 1) = 0) (hT : TrO H' (tr i) (tc i) (tf i) (tu i) v) : Stq G (fun b => O b = l) H O H' O ∧ TrX G H' O l L n (upA tv i v) e tr tc tf tu := by
  obtain ⟨a1, a2, a3, a4, a5⟩ := h
  obtain ⟨b1, b2, b3, b4, b5⟩ := a4 i hi
  have s : Stq G (fun b => O b = l) H O H' O := Stq.of (hK.mono (fun b hb q => by
    rcases q with q | q | q
    · rw [q]; exact b3
    · rw [q]; exact b4
    · rw [q]; exact b5)) z
  obtain ⟨c1, c2, c3, c4, c5, c6, c7, c8, c9, c10, c11, -⟩ := b1
  have kn : ∀ b, TrA (tc i) (tf i) (tu i) b → kd H b = 1020 ∨ kd H b = 1021 ∨ kd H b = 1022 := by
    intro b q
    rcases q with q | q | q
    · rw [q]; exact Or.inl c9
    · rw [q]; exact Or.inr (Or.inl c10)
    · rw [q]; exact Or.inr (Or.inr c11)
  refine ⟨s, a1.ks hK (fun q => by have := kn _ q; rw [a1.1] at this; omega) (fun k q => by have := kn _ q; omega), a2, a3.ks a1 s, fun t ht => ?_, a5⟩
  by_cases hti : t = i
  · rw [hti, upA_n]
    exact ⟨hT, b2, b3, b4, b5⟩
  · rw [upA_i hti]
    obtain ⟨d1, d2, d3, d4, d5⟩ := a4 t ht
    refine ⟨d1.ks hK (fun q => ?_) (fun q => ?_) (fun q => ?_) (fun q => ?_), d2, d3, d4, d5⟩
    · have := kn _ q
      rw [d1.1] at this
      omega
    · obtain ⟨f1, f2, f3, f4, f5, f6, f7, f8, f9, f10, f11, -⟩ := d1
      rcases q with q | q | q
      · exact hti (a5 t i ht hi (Or.inl q))
      · rw [q, c10] at f9; omega
      · rw [q, c11] at f9; omega
    · obtain ⟨f1, f2, f3, f4, f5, f6, f7, f8, f9, f10, f11, -⟩ := d1
      rcases q with q | q | q
      · rw [q, c9] at f10; omega
      · exact hti (a5 t i ht hi (Or.inr (Or.inl q)))
      · rw [q, c11] at f10; omega
    · obtain ⟨f1, f2, f3, f4, f5, f6, f7, f8, f9, f10, f11, -⟩ := d1
      rcases q with q | q | q
      · rw [q, c9] at f11; omega
      · rw [q, c10] at f11; omega
      · exact hti (a5 t i ht hi (Or.inr (Or.inr q)))
theorem DrX.set {dv : Nat → Nat → Int32} {dr : Nat → Nat} {i : Nat} {v : Nat → Int32} (h : DrX G H O l L n dv e dr) (hi : i < n) (hK : Ks (fun a => a = dr i) H H') (z : kd H' (gSt G 1) = 0) (hT : DrO H' (dr i) (v 0) (v 2) (v 1)) : Stq G (fun b => O b = l) H O H' O ∧ DrX G H' O l L n (upA dv i v) e dr := by
  obtain ⟨a1, a2, a3, a4, a5⟩ := h
  obtain ⟨b1, b2⟩ := a4 i hi
  have s : Stq G (fun b => O b = l) H O H' O := Stq.of (hK.mono (fun b hb q => by rw [q]; exact b2)) z
  have kb := b1.1
  refine ⟨s, a1.ks hK (fun q => by have := a1.1; rw [q, kb] at this; omega) (fun k q => by rw [q, kb] at k; omega), a2, a3.ks a1 s, fun t ht => ?_, a5⟩
  by_cases hti : t = i
  · rw [hti, upA_n]
    exact ⟨hT, b2⟩
  · rw [upA_i hti]
    obtain ⟨d1, d2⟩ := a4 t ht
    exact ⟨d1.ks hK (fun q => hti (a5 t i ht hi q)), d2⟩
/-- the own cells of a cable -/
def CaA (a r f b : Nat) : Prop := b = a ∨ b = r ∨ b = f
theorem CaX.setO {O' : Nat → Nat} {cv : Nat → Nat → Int32} {ca rl re : Nat → Nat} {st : Nat → Nat → Nat} {i re' k : Nat} {s2 : Nat → Nat} {v : Nat → Int32} (h : CaX G H O l L n cv e ca rl re st) (z0 : kd H (gSt G 1) = 0) (hi : i < n) (hK : Ks (CaA (ca i) (rl i) (re i)) H H') (z : kd H' (gSt G 1) = 0) (hk : (v 4).toNatClampNeg = k) (hT : CaO G H' (ca i) (rl i) re' s2 k v) (hre : re' = re i ∨ kd H re' = 0) (ho : ∀ a, kd H a ≠ 0 → O' a = O a) (hr0 : kd H re' = 0 → kd H' re' ≠ 0 → O' re' = l) (hs : ∀ j, j < k → O' (s2 j) = 0) : Stq G (fun b => O b = l) H O H' O' ∧ CaX G H' O' l L n (upA cv i v) e ca rl (upA re i re') (upA st i s2) := by
  obtain ⟨a1, a2, a3, a4, a5, a6⟩ := h
  obtain ⟨b1, b2, b3, b4⟩ := a4 i hi
  have kc : kd H (ca i) = 4 := b1.1.1
  have kr : kd H (rl i) = 20 := b1.2.2.2.1.1
  have ke : kd H (re i) ≠ 0 → kd H (re i) = 4096 := fun q => by
    rcases b1.2.2.2.1.2.2.2.2 with q2 | q2
    · rw [q2.1] at q
      exact absurd z0 q
    · exact q2.1
  have s : Stq G (fun b => O b = l) H O H' O' := ⟨(hK.mono (fun b hb q => by
    rcases q with q | q | q
    · rw [q]; exact b2
    · rw [q]; exact b3.1
    · rw [q] at hb ⊢; exact b3.2 hb)), ho, z⟩
  have hez : ∀ {c r f k : Nat} {s2 : Nat → Nat} {v : Nat → Int32}, CaO G H c r f s2 k v → kd H' f ≠ 0 → kd H f ≠ 0 := fun hT q => hT.2.2.2.1.ez s q
  have okc : ∀ b, kd H b ≠ 0 → kd H b ≠ 4 → kd H b ≠ 20 → kd H b ≠ 4096 → ¬ CaA (ca i) (rl i) (re i) b := by
    intro b h0 h1 h2 h3 q
    rcases q with q | q | q
    · exact h1 (by rw [q]; exact kc)
    · exact h2 (by rw [q]; exact kr)
    · rw [q] at h0 h3
      exact h3 (ke h0)
  refine ⟨s, a1.ks hK (fun q => ?_) (fun k q => ?_), a2, a3.ks a1 s, fun c hc => ?_, fun x y hx hy q => ?_, fun x hx => ?_⟩
  · rcases q with q | q | q
    · have := a1.1
      rw [q, kc] at this
      omega
    · exact (a6 i hi).1 q.symm
    · have := a1.1
      have h9 := ke (by rw [← q, a1.1]; decide)
      rw [q, h9] at this
      omega
  · rcases q with q | q | q
    · rw [q, kc] at k
      omega
    · rw [q, kr] at k
      omega
    · exact (a6 i hi).2 (by rw [← q, k]; decide) q.symm
  · by_cases hci : c = i
    · rw [hci, upA_n, upA_n, upA_n, hk]
      refine ⟨hT, (ho _ (by rw [kc]; decide)).trans b2, ⟨(ho _ (by rw [kr]; decide)).trans b3.1, fun q => ?_⟩, hs⟩
      by_cases h0 : kd H re' = 0
      · exact hr0 h0 q
      · rw [ho _ h0]
        rcases hre with h9 | h9
        · rw [h9] at h0 ⊢
          exact b3.2 h0
        · exact absurd h9 h0
    · rw [upA_i hci, upA_i hci, upA_i hci]
      obtain ⟨d1, d2, d3, d4⟩ := a4 c hc
      refine ⟨d1.ks hK (fun q => ?_) (fun q => ?_) (fun k q => ?_) (fun j hj => okc _ (by rw [(d1.2.2.2.2 j hj).1]; decide) (by rw [(d1.2.2.2.2 j hj).1]; decide) (by rw [(d1.2.2.2.2 j hj).1]; decide) (by rw [(d1.2.2.2.2 j hj).1]; decide)), (ho _ (by rw [d1.1.1]; decide)).trans d2, d3.ks d1.2.2.2.1 s, fun j hj => (ho _ (by rw [(d1.2.2.2.2 j hj).1]; decide)).trans (d4 j hj)⟩
      · rcases q with q | q | q
        · exact hci (a5 c i hc hi (Or.inl q))
        · have := d1.1.1
          rw [q, kr] at this
          omega
        · have := d1.1.1
          have h9 := ke (by rw [← q, this]; decide)
          rw [q, h9] at this
          omega
      · rcases q with q | q | q
        · have := d1.2.2.2.1.1
          rw [q, kc] at this
          omega
        · exact hci (a5 c i hc hi (Or.inr (Or.inl q)))
        · have := d1.2.2.2.1.1
          have h9 := ke (by rw [← q, this]; decide)
          rw [q, h9] at this
          omega
      · rcases q with q | q | q
        · rw [q, kc] at k
          omega
        · rw [q, kr] at k
          omega
        · exact hci (a5 c i hc hi (Or.inr (Or.inr ⟨by rw [k]; decide, q⟩)))
  · have hne : ∀ x, x < n → kd H (re x) ≠ 0 → re x = re' → x = i := by
      intro x hx h0 h1
      rcases hre with h9 | h9
      · exact a5 x i hx hi (Or.inr (Or.inr ⟨h0, h1.trans h9⟩))
      · rw [h1] at h0
        exact absurd h9 h0
    rcases q with q | q | q
    · exact a5 x y hx hy (Or.inl q)
    · exact a5 x y hx hy (Or.inr (Or.inl q))
    · by_cases hxi : x = i
      · by_cases hyi : y = i
        · rw [hxi, hyi]
        · rw [hxi, upA_n, upA_i hyi] at q
          have h1 := hez (a4 y hy).1 (by rw [← q.2]; exact q.1)
          exact absurd (hne y hy h1 q.2.symm) hyi
      · by_cases hyi : y = i
        · rw [hyi, upA_n, upA_i hxi] at q
          have h1 := hez (a4 x hx).1 q.1
          exact absurd (hne x hx h1 q.2) hxi
        · rw [upA_i hxi, upA_i hyi] at q
          exact a5 x y hx hy (Or.inr (Or.inr ⟨hez (a4 x hx).1 q.1, q.2⟩))
  · refine ⟨(a6 x hx).1, fun q => ?_⟩
    by_cases hxi : x = i
    · rw [hxi, upA_n] at q ⊢
      rcases hre with h9 | h9
      · rw [h9] at q ⊢
        exact (a6 i hi).2 (hez b1 q)
      · intro e9
        rcases a1.2.2.2.2 with k | k
        · rw [e9, k.1] at q
          exact absurd z q
        · rw [e9, k.1] at h9
          exact absurd h9 (by decide)
    · rw [upA_i hxi] at q ⊢
      exact (a6 x hx).2 (hez (a4 x hx).1 q)
theorem CaX.set {cv : Nat → Nat → Int32} {ca rl re : Nat → Nat} {st : Nat → Nat → Nat} {i re' k : Nat} {s2 : Nat → Nat} {v : Nat → Int32} (h : CaX G H O l L n cv e ca rl re st) (z0 : kd H (gSt G 1) = 0) (hi : i < n) (_hl0 : l ≠ 0) (hK : Ks (CaA (ca i) (rl i) (re i)) H H') (z : kd H' (gSt G 1) = 0) (hk : (v 4).toNatClampNeg = k) (hT : CaO G H' (ca i) (rl i) re' s2 k v) (hre : re' = re i ∨ kd H re' = 0) (hs : ∀ j, j < k → kd H (s2 j) ≠ 0 ∧ O (s2 j) = 0) : Stq G (fun b => O b = l) H O H' (rlb O H l) ∧ CaX G H' (rlb O H l) l L n (upA cv i v) e ca rl (upA re i re') (upA st i s2) :=
  h.setO z0 hi hK z hk hT hre (fun _ ha => rlb_n ha) (fun q _ => rlb_f q) (fun j hj => (rlb_n (hs j hj).1).trans (hs j hj).2)
theorem PlF.set {p tyL M trL caL drL : Nat} {sp ta wa sp' ta' wa' : Int32} (h : PlF H O l p tyL M trL caL drL sp ta wa) (hK : Ks (fun a => a = p) H H') (z : kd H' (gSt G 1) = 0) (hr : gR H' = gR H) (h13 : gI H' 13 p = sp') (h14 : gI H' 14 p = ta') (h15 : gI H' 15 p = wa') : Stq G (fun b => O b = l) H O H' O ∧ PlF H' O l p tyL M trL caL drL sp' ta' wa' := by
  obtain ⟨⟨p1, p8, p9, p10, p11, p12, p13, p14, p15⟩, pO⟩ := h
  exact ⟨Stq.of (hK.mono (fun b hb q => by rw [q]; exact pO)) z, ⟨hK.kk p1 (by decide), by rw [hr]; exact p8, by rw [hr]; exact p9, by rw [hr]; exact p10, by rw [hr]; exact p11, by rw [hr]; exact p12, h13, h14, h15⟩, pO⟩
end Set
