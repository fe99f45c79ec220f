set_option maxRecDepth 100000
/-! HASH MAPS: put of a new key -/
section Map3
variable {G : Gl} {d : Nat} {Qr : Option AV → AH → Prop} {Qx : String → Nat → AH → Prop} {H : AH} {M n : Nat} {hs : Nat → Int32} {ky vl nd : Nat → Nat}
/-- what the map can change, and the hash of the key -/
def SMk (H : AH) (M n : Nat) (nd : Nat → Nat) (k : Nat) (a : Nat) : Prop := SM H M n nd a ∨ SH H k a
theorem s_put {k mk v : Nat} {ck : Nat → Nat} {m : Nat → Nat} {cs : Nat → Nat → Nat} (hd : 5 ≤ d) (h : HM H M n hs ky vl nd) (hn : n < 6) (hk : ST H k mk ck) (hks : ∀ i, i < n → ST H (ky i) (m i) (cs i)) (hh : ∀ i, i < n → hs i = sprd (hsh (cs i) (m i))) (hnew : ∀ i, i < n → mtk m cs mk ck i = false)
    (hQ : ∀ H' nd', Ks (SMk H M n nd k) H H' → HM H' M (n + 1) (upA hs n (sprd (hsh ck mk))) (upA ky n k) (upA vl n v) nd' → STK H H' k mk ck → gI H' 115 k = hsh ck mk → (∀ i, i < n → nd' i = nd i) → kd H (nd' n) = 0 → (∀ tb, gR H' 100 M = some tb → gR H 100 M = some tb ∨ kd H tb = 0) → Qr (some (vR none)) H') : AMet G d 2 20 yJ4_put wJ4_put H [vR (some M), vR (some k), vR (some v)] Qr Qx := by
  have a1 := h.1
  have hSM : ∀ a, SM H M n nd a → kd H a = 21 ∨ kd H a = 5100 ∨ kd H a = 27 := by
    obtain ⟨a1, a2, a3, a4, a5, a6⟩ := h
    intro a q
    rcases q with q | q | ⟨j, hj, q⟩
    · rw [q]
      exact Or.inl a1
    · rcases a4 with ⟨-, b2, -⟩ | ⟨tb, b1, b2, -⟩
      · rw [b2] at q
        cases q
      · rw [b1] at q
        cases q
        exact Or.inr (Or.inl b2)
    · rw [q]
      exact Or.inr (Or.inr (a5 j hj).1)
  refine AMet.of (M := mJ4_put) (maxL := 3) (by first | rfl | decide +kernel) rfl (Nat.le_of_ble_eq_true rfl) ?_
  show AW mJ4_put _ _ _ _ _ _ _ 0 [some (vR (some M)), some (vR (some k)), some (vR (some v))] []
  refine r_aload_n (i := 0) dJ4_put_0 rfl rfl ?_
  refine r_aload_n (i := 1) dJ4_put_1 rfl rfl ?_
  refine r_callS (As := [_]) (mc' := 0) (ms' := 0) dJ4_put_2 k_J4_149 rfl (by first | assumption | omega) (by first | assumption | omega) (by first | assumption | omega) (Nat.le_of_ble_eq_true rfl) ?_
  refine s_mapHash (by omega) hk (fun H1 hK hkS hh1 => ?_)
  have hk1 := hkS.1
  have hne24 : ∀ a, kd H a ≠ 24 → ¬ SH H k a := fun a ha q => ha (by rw [q.1]; exact hk.1)
  have h1 : HM H1 M n hs ky vl nd := h.ks hK (hne24 M (by rw [a1]; decide)) (fun t ht => hne24 t (by have := hSM t (Or.inr (Or.inl ht)); omega)) (fun i hi => hne24 _ (by rw [(h.2.2.2.2.1 i hi).1]; decide))
  have kk1 : kd H1 M = 21 := h1.1
  have hks1 : ∀ i, i < n → ST H1 (ky i) (m i) (cs i) := by
    intro i hi
    refine (hks i hi).ks hK (fun q => ?_) (fun v hv => hne24 v (by rw [hv]; decide))
    have e := hks i hi
    rw [q.1] at e
    have := hnew i hi
    rw [show mtk m cs mk ck i = true from decide_eq_true (ST.inj hk e)] at this
    cases this
  show AW mJ4_put G d Qr Qx _ _ H1 5 _ _
  refine r_aload_n (i := 1) dJ4_put_5 rfl rfl ?_
  refine r_aload_n (i := 2) dJ4_put_6 rfl rfl ?_
  refine r_iconst (v := nI 0) dJ4_put_7 (by decide) ?_
  refine r_iconst (v := nI 1) dJ4_put_8 (by decide) ?_
  refine r_callV (As := [_, _, _, _, _]) (mc' := 2) (ms' := 20) dJ4_put_9 k_J4_152 rfl (by first | assumption | (simp only [kd_sI, kd_sR, kd_sA, kd_sQ, kd_sL, kd_sD, ln_sI, ln_sR, ln_sA, ln_sQ, ln_sL, ln_sD, gI_sR, gI_sA, gI_sQ, gI_sL, gI_sD, gR_sI, gR_sA, gR_sQ, gR_sL, gR_sD, gA_sI, gA_sR, gA_sQ, gA_sL, gA_sD, gQ_sI, gQ_sR, gQ_sA, gQ_sL, gQ_sD, gL_sI, gL_sR, gL_sA, gL_sQ, gL_sD]; assumption) | simp [kd_sI, kd_sR, kd_sA, kd_sQ, kd_sL, kd_sD, ln_sI, ln_sR, ln_sA, ln_sQ, ln_sL, ln_sD, gI_sR, gI_sA, gI_sQ, gI_sL, gI_sD, gR_sI, gR_sA, gR_sQ, gR_sL, gR_sD, gA_sI, gA_sR, gA_sQ, gA_sL, gA_sD, gQ_sI, gQ_sR, gQ_sA, gQ_sL, gQ_sD, gL_sI, gL_sR, gL_sA, gL_sQ, gL_sD, kd_nO, kd_nA, *]) (T := TJ4) (N := 8) rfl (by first | assumption | omega) (by first | assumption | omega) (by first | assumption | omega) (Nat.le_of_ble_eq_true rfl) ?_
  refine s_putVal (by omega) h1 hn hk1 hks1 hh hnew (fun H2 nd' hK2 hm2 h3 h4 h5 => ?_)
  show AW mJ4_put G d Qr Qx _ _ H2 12 _ _
  refine r_areturn dJ4_put_12 rfl (by first | exact Or.inl ⟨_, rfl⟩ | exact Or.inr ⟨_, rfl⟩) ?_
  have e1 := hK.at (a := M) (by rw [a1]; decide) (hne24 M (by rw [a1]; decide))
  have hsub : ∀ a, kd H a ≠ 0 → SM H1 M n nd a → SM H M n nd a := by
    intro a _ q
    rcases q with q | q | q
    · exact Or.inl q
    · rw [at_gR e1] at q
      exact Or.inr (Or.inl q)
    · exact Or.inr (Or.inr q)
  have hkn : ¬ SM H1 M n nd k := fun q => by
    have := hSM k (hsub k (by rw [hk.1]; decide) q)
    rw [hk.1] at this
    omega
  have hv2 : ∀ w, kd H1 w = 2113 → ¬ SM H1 M n nd w := fun w hw q => by
    by_cases hw0 : kd H w = 0
    · rcases q with q | q | ⟨j, hj, q⟩
      · rw [q, kk1] at hw; cases hw
      · rw [at_gR e1] at q
        have := hSM w (Or.inr (Or.inl q))
        omega
      · have := hSM w (Or.inr (Or.inr ⟨j, hj, q⟩))
        omega
    · have := hSM w (hsub w hw0 q)
      have h9 := (hK w hw0).1
      omega
  have e2 := hK2.at (a := k) (by rw [hk1.1]; decide) hkn
  refine hQ H2 nd' ((hK.mono (fun _ _ q => Or.inr q)).tr2 hK2 (fun a ha q => Or.inl (hsub a ha q))) hm2 ⟨hk1.ks hK2 hkn hv2, by rw [at_gR e2]; exact hkS.2⟩ (by rw [at_gI e2]; exact hh1) h3 (hK.fr h4) (fun tb ht => ?_)
  rcases h5 tb ht with h5 | h5
  · rw [at_gR e1] at h5
    exact Or.inl h5
  · exact Or.inr (hK.fr h5)
end Map3
