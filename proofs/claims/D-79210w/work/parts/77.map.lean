set_option maxRecDepth 100000
/-! HASH MAPS of up to 16 buckets, from Strings -/
theorem find9_in {p : Nat → Bool} {i k j : Nat} (h : find9 p i k = some j) : i ≤ j ∧ j < i + k ∧ p j = true ∧ ∀ x, i ≤ x → x < j → p x = false := by
  induction k generalizing i with
  | zero => cases h
  | succ k ih =>
    rw [find9] at h
    by_cases hp : p i = true
    · rw [if_pos hp] at h
      cases h
      exact ⟨Nat.le_refl _, by omega, hp, fun x h1 h2 => by omega⟩
    · rw [if_neg hp] at h
      obtain ⟨h1, h2, h3, h4⟩ := ih h
      refine ⟨by omega, by omega, h3, fun x g1 g2 => ?_⟩
      by_cases hx : x = i
      · rw [hx]
        simpa using hp
      · exact h4 x (by omega) g2
theorem find9_no {p : Nat → Bool} {i k : Nat} (h : find9 p i k = none) : ∀ x, i ≤ x → x < i + k → p x = false := by
  induction k generalizing i with
  | zero => intro x h1 h2; omega
  | succ k ih =>
    rw [find9] at h
    by_cases hp : p i = true
    · rw [if_pos hp] at h
      cases h
    · rw [if_neg hp] at h
      intro x g1 g2
      by_cases hx : x = i
      · rw [hx]
        simpa using hp
      · exact ih h x (by omega) (by omega)
theorem find9_is {p : Nat → Bool} {i k j : Nat} (h1 : i ≤ j) (h2 : j < i + k) (h3 : p j = true) (h4 : ∀ x, i ≤ x → x < j → p x = false) : find9 p i k = some j := by
  cases hf : find9 p i k with
  | none => rw [find9_no hf j h1 h2] at h3; cases h3
  | some x =>
    obtain ⟨g1, g2, g3, g4⟩ := find9_in hf
    rcases Nat.lt_trichotomy x j with q | q | q
    · rw [h4 x g1 q] at g3; cases g3
    · rw [q]
    · rw [g4 j h1 q] at h3; cases h3
theorem find9_isno {p : Nat → Bool} {i k : Nat} (h : ∀ x, i ≤ x → x < i + k → p x = false) : find9 p i k = none := by
  cases hf : find9 p i k with
  | none => rfl
  | some x =>
    obtain ⟨g1, g2, g3, g4⟩ := find9_in hf
    rw [h x g1 g2] at g3
    cases g3
/-- the bucket of a hash -/
def bkt (h : Int32) : Nat := (nI 15 &&& h).toBitVec.toNat
theorem bkt_eq (h : Int32) : (nI 15 &&& h) = nI (bkt h) := by
  unfold bkt nI
  apply Int32.toBitVec.inj
  simp [Int32.toBitVec_ofNat']
theorem bkt_lt (h : Int32) : bkt h < 16 := by
  have e : (nI 15 &&& h).toBitVec = (15#32) &&& h.toBitVec := by rw [Int32.toBitVec_and]; rfl
  unfold bkt
  rw [e, BitVec.toNat_and]
  exact Nat.lt_of_le_of_lt Nat.and_le_left (by decide)
/-- the map's own hash of a String's -/
def sprd (h : Int32) : Int32 := h ^^^ (h.toUInt32 >>> ((nI 16).toUInt32 &&& Int32.toUInt32 31)).toInt32
theorem ST.inj {H : AH} {a m m2 : Nat} {cs ds : Nat → Nat} (h : ST H a m cs) (k : ST H a m2 ds) : m = m2 ∧ ∀ i, i < m → cs i = ds i := by
  obtain ⟨a1, a2, a3, ⟨v, a4, a5, a7⟩, a8⟩ := h
  obtain ⟨b1, b2, b3, ⟨w, b4, b5, b7⟩, b8⟩ := k
  have hvw : v = w := Option.some.inj (a4.symm.trans b4)
  subst hvw
  have hmk : m = m2 := a7.symm.trans b7
  subst hmk
  refine ⟨rfl, fun i hi => ?_⟩
  obtain ⟨g1, g2⟩ := a5.2 i hi
  obtain ⟨g3, g4⟩ := b5.2 i hi
  exact Classical.byContradiction fun q => nI_ne q (by omega) (by omega) (g1.symm.trans g3)
section Map
variable {G : Gl} {d : Nat} {Qr : Option AV → AH → Prop} {Qx : String → Nat → AH → Prop} {H : AH} {M n : Nat} {hs : Nat → Int32} {ky vl nd : Nat → Nat}
/-- a map M of n entries: hashes hs, keys ky, values vl, in the nodes nd, each bucket a chain in order; the table at tb -/
def HM (H : AH) (M n : Nat) (hs : Nat → Int32) (ky vl nd : Nat → Nat) : Prop := kd H M = 21 ∧ gI H 102 M = nI n ∧ n ≤ 6 ∧
  ((n = 0 ∧ gR H 100 M = none ∧ gI H 104 M = nI 0) ∨ ∃ tb, gR H 100 M = some tb ∧ kd H tb = 5100 ∧ ln H tb = 16 ∧ gI H 104 M = nI 12 ∧ ∀ b, b < 16 → gQ H 5100 tb b = (find9 (fun j => bkt (hs j) == b) 0 n).map nd) ∧
  (∀ i, i < n → kd H (nd i) = 27 ∧ gI H 122 (nd i) = hs i ∧ gR H 123 (nd i) = some (ky i) ∧ gR H 124 (nd i) = some (vl i) ∧ gR H 125 (nd i) = (find9 (fun j => bkt (hs j) == bkt (hs i)) (i + 1) (n - (i + 1))).map nd) ∧
  ∀ i j, i < n → j < n → nd i = nd j → i = j
theorem HM.ks {H' : AH} {S : Nat → Prop} (h : HM H M n hs ky vl nd) (hk : Ks S H H') (h1 : ¬ S M) (h2 : ∀ tb, gR H 100 M = some tb → ¬ S tb) (h3 : ∀ i, i < n → ¬ S (nd i)) : HM H' M n hs ky vl nd := by
  obtain ⟨a1, a2, a3, a4, a5, a6⟩ := h
  have e1 := hk.at (a := M) (by rw [a1]; decide) h1
  refine ⟨by rw [at_kd e1]; exact a1, by rw [at_gI e1]; exact a2, a3, ?_, fun i hi => ?_, a6⟩
  · rcases a4 with ⟨b1, b2, b3⟩ | ⟨tb, b1, b2, b3, b4, b5⟩
    · exact Or.inl ⟨b1, by rw [at_gR e1]; exact b2, by rw [at_gI e1]; exact b3⟩
    · have e2 := hk.at (a := tb) (by rw [b2]; decide) (h2 tb b1)
      exact Or.inr ⟨tb, by rw [at_gR e1]; exact b1, by rw [at_kd e2]; exact b2, by rw [at_ln e2]; exact b3, by rw [at_gI e1]; exact b4, fun b hb => by rw [at_gQ e2]; exact b5 b hb⟩
  · obtain ⟨c1, c2, c3, c4, c5⟩ := a5 i hi
    have e3 := hk.at (a := nd i) (by rw [c1]; decide) (h3 i hi)
    exact ⟨by rw [at_kd e3]; exact c1, by rw [at_gI e3]; exact c2, by rw [at_gR e3]; exact c3, by rw [at_gR e3]; exact c4, by rw [at_gR e3]; exact c5⟩
theorem s_mapHash {k mk : Nat} {ck : Nat → Nat} (hd : 4 ≤ d) (h : ST H k mk ck) (hQ : ∀ H', Ks (SH H k) H H' → STK H H' k mk ck → gI H' 115 k = hsh ck mk → Qr (some (vI (sprd (hsh ck mk)))) H') : AMet G d 0 0 yJ4_hash wJ4_hash H [vR (some k)] Qr Qx := by
  have a1 := h.1
  refine AMet.of (M := mJ4_hash) (maxL := 2) (by first | rfl | decide +kernel) rfl (Nat.le_of_ble_eq_true rfl) ?_
  show AW mJ4_hash _ _ _ _ _ _ _ 0 [some (vR (some k)), none] []
  refine r_aload_n (i := 0) dJ4_hash_0 rfl rfl ?_
  refine r_ifnonnull (tgt := 8) dJ4_hash_1 (by decide) (fun a1 h1 => ?_) (fun h1 => ?_)
  · refine r_aload_n (i := 0) dJ4_hash_8 rfl rfl ?_
    refine r_callU (As := []) (mc' := 0) (ms' := 0) dJ4_hash_9 k_J4_1_J8 rfl (by first | assumption | (simp only [kd_sI, kd_sR, kd_sA, kd_sQ, kd_sL, kd_sD, ln_sI, ln_sR, ln_sA, ln_sQ, ln_sL, ln_sD, gI_sR, gI_sA, gI_sQ, gI_sL, gI_sD, gR_sI, gR_sA, gR_sQ, gR_sL, gR_sD, gA_sI, gA_sR, gA_sQ, gA_sL, gA_sD, gQ_sI, gQ_sR, gQ_sA, gQ_sL, gQ_sD, gL_sI, gL_sR, gL_sA, gL_sQ, gL_sD]; assumption) | simp [kd_sI, kd_sR, kd_sA, kd_sQ, kd_sL, kd_sD, ln_sI, ln_sR, ln_sA, ln_sQ, ln_sL, ln_sD, gI_sR, gI_sA, gI_sQ, gI_sL, gI_sD, gR_sI, gR_sA, gR_sQ, gR_sL, gR_sD, gA_sI, gA_sR, gA_sQ, gA_sL, gA_sD, gQ_sI, gQ_sR, gQ_sA, gQ_sL, gQ_sD, gL_sI, gL_sR, gL_sA, gL_sQ, gL_sD, kd_nO, kd_nA, *]) (T := TJ8) (N := 4) rfl (by first | assumption | omega) (by first | assumption | omega) (by first | assumption | omega) (Nat.le_of_ble_eq_true rfl) ?_
    refine s_strHash (by omega) h (fun H' h1 h2 h3 => ?_)
    show AW mJ4_hash G d Qr Qx _ _ _ 12 _ _
    refine r_dup dJ4_hash_12 rfl ?_
    refine r_istore_n (i := 1) dJ4_hash_13 rfl (Nat.le_of_ble_eq_true rfl) (by simp only [lset]; rfl) ?_
    refine r_iload_n (i := 1) dJ4_hash_14 rfl rfl ?_
    refine r_bipush (v := nI 16) dJ4_hash_15 (by decide) ?_
    refine r_iushr dJ4_hash_17 ?_
    refine r_ixor dJ4_hash_18 ?_
    refine r_ireturn dJ4_hash_19 rfl (by first | rfl | assumption | exact vp_nar_int _ | exact pk_nc _) ?_
    exact hQ H' h1 h2 h3
  · cases h1
/-- does the key number j match -/
def mtk (m : Nat → Nat) (cs : Nat → Nat → Nat) (mk : Nat) (ck : Nat → Nat) (j : Nat) : Bool := decide (mk = m j ∧ ∀ i, i < mk → ck i = cs j i)
theorem s_getNode {k mk : Nat} {ck : Nat → Nat} {m : Nat → Nat} {cs : Nat → Nat → Nat} (hd : 5 ≤ d) (h : HM H M n hs ky vl nd) (hk : ST H k mk ck) (hks : ∀ i, i < n → ST H (ky i) (m i) (cs i)) (hh : ∀ i, i < n → hs i = sprd (hsh (cs i) (m i))) (hQ : ∀ H', Ks (SH H k) H H' → STK H H' k mk ck → gI H' 115 k = hsh ck mk ∨ n = 0 → Qr (some (vR ((find9 (mtk m cs mk ck) 0 n).map nd))) H') : AMet G d 0 0 yJ4_getNode wJ4_getNode H [vR (some M), vR (some k)] Qr Qx := by
  have h0 := h
  obtain ⟨a1, a2, a3, a4, a5, a6⟩ := h
  refine AMet.of (M := mJ4_getNode) (maxL := 8) (by first | rfl | decide +kernel) rfl (Nat.le_of_ble_eq_true rfl) ?_
  show AW mJ4_getNode _ _ _ _ _ _ _ 0 [some (vR (some M)), some (vR (some k)), none, none, none, none, none, none] []
  rcases a4 with ⟨rfl, b2, b3⟩ | ⟨tb, b1, b2, b3, b4, b5⟩
  · refine r_aload_n (i := 0) dJ4_getNode_0 rfl rfl ?_
    refine r_getR dJ4_getNode_1 fR_J4_105 (by first | assumption | (simp only [kd_sI, kd_sR, kd_sA, kd_sQ, kd_sL, kd_sD, ln_sI, ln_sR, ln_sA, ln_sQ, ln_sL, ln_sD, gI_sR, gI_sA, gI_sQ, gI_sL, gI_sD, gR_sI, gR_sA, gR_sQ, gR_sL, gR_sD, gA_sI, gA_sR, gA_sQ, gA_sL, gA_sD, gQ_sI, gQ_sR, gQ_sA, gQ_sL, gQ_sD, gL_sI, gL_sR, gL_sA, gL_sQ, gL_sD]; assumption) | simp [kd_sI, kd_sR, kd_sA, kd_sQ, kd_sL, kd_sD, ln_sI, ln_sR, ln_sA, ln_sQ, ln_sL, ln_sD, gI_sR, gI_sA, gI_sQ, gI_sL, gI_sD, gR_sI, gR_sA, gR_sQ, gR_sL, gR_sD, gA_sI, gA_sR, gA_sQ, gA_sL, gA_sD, gQ_sI, gQ_sR, gQ_sA, gQ_sL, gQ_sD, gL_sI, gL_sR, gL_sA, gL_sQ, gL_sD, kd_nO, kd_nA, *]) (by first | assumption | exact gI_sIs | exact gR_sRs | with_reducible rfl | (simp only [kd_sI, kd_sR, kd_sA, kd_sQ, kd_sL, kd_sD, ln_sI, ln_sR, ln_sA, ln_sQ, ln_sL, ln_sD, gI_sR, gI_sA, gI_sQ, gI_sL, gI_sD, gR_sI, gR_sA, gR_sQ, gR_sL, gR_sD, gA_sI, gA_sR, gA_sQ, gA_sL, gA_sD, gQ_sI, gQ_sR, gQ_sA, gQ_sL, gQ_sD, gL_sI, gL_sR, gL_sA, gL_sQ, gL_sD]; first | done | assumption | with_reducible rfl) | rfl) ?_
    refine r_dup dJ4_getNode_4 rfl ?_
    refine r_astore_n (i := 2) dJ4_getNode_5 rfl (Nat.le_of_ble_eq_true rfl) (by simp only [lset]; rfl) ?_
    refine r_ifnull (tgt := 148) dJ4_getNode_6 (by decide) (fun h6 => ?_) (fun a6 h6 => ?_)
    · refine r_null dJ4_getNode_148 ?_
      refine r_areturn dJ4_getNode_149 rfl (by first | exact Or.inl ⟨_, rfl⟩ | exact Or.inr ⟨_, rfl⟩) ?_
      exact hQ H Ks.rf ⟨hk, rfl⟩ (Or.inr rfl)
    · cases h6
  · have hp16 : (0 : Int32) < nI 16 := by decide
    refine r_aload_n (i := 0) dJ4_getNode_0 rfl rfl ?_
    refine r_getR dJ4_getNode_1 fR_J4_105 (by first | assumption | (simp only [kd_sI, kd_sR, kd_sA, kd_sQ, kd_sL, kd_sD, ln_sI, ln_sR, ln_sA, ln_sQ, ln_sL, ln_sD, gI_sR, gI_sA, gI_sQ, gI_sL, gI_sD, gR_sI, gR_sA, gR_sQ, gR_sL, gR_sD, gA_sI, gA_sR, gA_sQ, gA_sL, gA_sD, gQ_sI, gQ_sR, gQ_sA, gQ_sL, gQ_sD, gL_sI, gL_sR, gL_sA, gL_sQ, gL_sD]; assumption) | simp [kd_sI, kd_sR, kd_sA, kd_sQ, kd_sL, kd_sD, ln_sI, ln_sR, ln_sA, ln_sQ, ln_sL, ln_sD, gI_sR, gI_sA, gI_sQ, gI_sL, gI_sD, gR_sI, gR_sA, gR_sQ, gR_sL, gR_sD, gA_sI, gA_sR, gA_sQ, gA_sL, gA_sD, gQ_sI, gQ_sR, gQ_sA, gQ_sL, gQ_sD, gL_sI, gL_sR, gL_sA, gL_sQ, gL_sD, kd_nO, kd_nA, *]) (by first | assumption | exact gI_sIs | exact gR_sRs | with_reducible rfl | (simp only [kd_sI, kd_sR, kd_sA, kd_sQ, kd_sL, kd_sD, ln_sI, ln_sR, ln_sA, ln_sQ, ln_sL, ln_sD, gI_sR, gI_sA, gI_sQ, gI_sL, gI_sD, gR_sI, gR_sA, gR_sQ, gR_sL, gR_sD, gA_sI, gA_sR, gA_sQ, gA_sL, gA_sD, gQ_sI, gQ_sR, gQ_sA, gQ_sL, gQ_sD, gL_sI, gL_sR, gL_sA, gL_sQ, gL_sD]; first | done | assumption | with_reducible rfl) | rfl) ?_
    refine r_dup dJ4_getNode_4 rfl ?_
    refine r_astore_n (i := 2) dJ4_getNode_5 rfl (Nat.le_of_ble_eq_true rfl) (by simp only [lset]; rfl) ?_
    refine r_ifnull (tgt := 148) dJ4_getNode_6 (by decide) (fun h6 => ?_) (fun a6 h6 => ?_)
    · cases h6
    · refine r_aload_n (i := 2) dJ4_getNode_9 rfl rfl ?_
      refine r_alen dJ4_getNode_10 (by first | (refine ⟨?_, ?_⟩ <;> simp [kd_sI, kd_sR, kd_sA, kd_sQ, kd_sL, kd_sD, ln_sI, ln_sR, ln_sA, ln_sQ, ln_sL, ln_sD, gI_sR, gI_sA, gI_sQ, gI_sL, gI_sD, gR_sI, gR_sA, gR_sQ, gR_sL, gR_sD, gA_sI, gA_sR, gA_sQ, gA_sL, gA_sD, gQ_sI, gQ_sR, gQ_sA, gQ_sL, gQ_sD, gL_sI, gL_sR, gL_sA, gL_sQ, gL_sD, *]; done) | omega) (by first | assumption | exact gI_sIs | exact gR_sRs | with_reducible rfl | (simp only [kd_sI, kd_sR, kd_sA, kd_sQ, kd_sL, kd_sD, ln_sI, ln_sR, ln_sA, ln_sQ, ln_sL, ln_sD, gI_sR, gI_sA, gI_sQ, gI_sL, gI_sD, gR_sI, gR_sA, gR_sQ, gR_sL, gR_sD, gA_sI, gA_sR, gA_sQ, gA_sL, gA_sD, gQ_sI, gQ_sR, gQ_sA, gQ_sL, gQ_sD, gL_sI, gL_sR, gL_sA, gL_sQ, gL_sD]; first | done | assumption | with_reducible rfl) | rfl) ?_
      refine r_dup dJ4_getNode_11 rfl ?_
      refine r_istore dJ4_getNode_12 (Nat.le_of_ble_eq_true rfl) (by simp only [lset]; rfl) ?_
      refine r_if_le (tgt := 148) dJ4_getNode_14 (by decide) (fun h14 => ?_) (fun h14 => ?_)
      · exact absurd h14 (by decide)
      · refine r_aload_n (i := 2) dJ4_getNode_17 rfl rfl ?_
        refine r_iload dJ4_getNode_18 rfl ?_
        refine r_iconst (v := nI 1) dJ4_getNode_20 (by decide) ?_
        refine r_isub dJ4_getNode_21 ?_
        refine r_aload_n (i := 1) dJ4_getNode_22 rfl rfl ?_
        refine r_callS (As := [_]) (mc' := 0) (ms' := 0) dJ4_getNode_23 k_J4_149 rfl (by first | assumption | omega) (by first | assumption | omega) (by first | assumption | omega) (Nat.le_of_ble_eq_true rfl) ?_
        refine s_mapHash (by omega) hk (fun H1 hK hkS hh1 => ?_)
        have hk1 := hkS.1
        have hne24 : ∀ a, kd H a ≠ 24 → ¬ SH H k a := fun a ha q => ha (by rw [q.1]; exact hk.1)
        have h1 : HM H1 M n hs ky vl nd := h0.ks hK (hne24 M (by rw [a1]; decide)) (fun t ht => by rw [b1] at ht; cases ht; exact hne24 tb (by rw [b2]; decide)) (fun i hi => hne24 _ (by rw [(a5 i hi).1]; decide))
        have hks1 : ∀ i, i < n → ST H1 (ky i) (m i) (cs i) := by
          intro i hi
          by_cases hik : ky i = k
          · have e := (hks i hi)
            rw [hik] at e
            obtain ⟨q1, q2⟩ := ST.inj hk e
            rw [hik]
            obtain ⟨z1, z2, z3, ⟨v, z4, ⟨z5, z6⟩, z7⟩, z8⟩ := hk1
            refine ⟨z1, z2, by omega, ⟨v, z4, ⟨z5, fun x hx => ?_⟩, by omega⟩, ?_⟩
            · rw [← q2 x (by omega)]
              exact z6 x (by omega)
            · rw [← q1, ← hsh_eq q2]
              exact z8
          · exact (hks i hi).ks hK (fun q => hik q.1) (fun v hv => hne24 v (by rw [hv]; decide))
        obtain ⟨-, -, -, c4, c5, -⟩ := h1
        rcases c4 with ⟨-, g2, -⟩ | ⟨tb1, g1, g2, g3, g4, g5⟩
        · have e1 := hK.at (a := M) (by rw [a1]; decide) (hne24 M (by rw [a1]; decide))
          rw [at_gR e1, b1] at g2
          cases g2
        have htb : tb1 = tb := by
          have e1 := hK.at (a := M) (by rw [a1]; decide) (hne24 M (by rw [a1]; decide))
          rw [at_gR e1, b1] at g1
          cases g1
          rfl
        subst htb
        obtain ⟨B, hB⟩ : ∃ B, bkt (sprd (hsh ck mk)) = B := ⟨_, rfl⟩
        have hBlt : B < 16 := by rw [← hB]; exact bkt_lt _
        have gB := g5 B hBlt
        have eB : ((nI 16 - nI 1) &&& sprd (hsh ck mk)) = nI B := by
          rw [show (nI 16 - nI 1 : Int32) = nI 15 by decide, bkt_eq, hB]
        have kk1 : kd H1 k = 24 := hk1.1
        have hmtB : ∀ j, j < n → mtk m cs mk ck j = true → hs j = sprd (hsh ck mk) := by
          intro j hj hm
          obtain ⟨q1, q2⟩ := of_decide_eq_true hm
          rw [hh j hj, ← q1, hsh_eq q2]
        show AW mJ4_getNode G d Qr Qx _ _ H1 26 _ _
        refine r_dup dJ4_getNode_26 rfl ?_
        refine r_istore dJ4_getNode_27 (Nat.le_of_ble_eq_true rfl) (by simp only [lset]; rfl) ?_
        refine r_iand dJ4_getNode_29 ?_
        rw [eB]
        -- nothing more in the chain
        have none9 : ∀ (ls : List (Option AV)), (∀ j, j < n → mtk m cs mk ck j = false) → AW mJ4_getNode G d Qr Qx 0 0 H1 148 ls [] := by
          intro ls hno
          have e : find9 (mtk m cs mk ck) 0 n = none := find9_isno (fun x _ hx => hno x (by omega))
          rw [e] at hQ
          refine r_null dJ4_getNode_148 ?_
          refine r_areturn dJ4_getNode_149 rfl (by first | exact Or.inl ⟨_, rfl⟩ | exact Or.inr ⟨_, rfl⟩) ?_
          exact hQ H1 hK hkS (Or.inl hh1)
        have loop : ∀ (fu j : Nat) (f9 : Nat) (x7 : Option AV), n - j ≤ fu → j < n → bkt (hs j) = B → (∀ x, x < j → mtk m cs mk ck x = false) → AW mJ4_getNode G d Qr Qx 0 0 H1 99 [some (vR (some M)), some (vR (some k)), some (vR (some tb1)), some (vR (some f9)), some (vR (some (nd j))), some (vI (nI 16)), some (vI (sprd (hsh ck mk))), x7] [] := by
          intro fu
          induction fu with
          | zero => intro j f9 x7 h1 h2; omega
          | succ fu ih =>
            intro j f9 x7 hfu hj hbj hno
            obtain ⟨n1, n2, n3, n4, n5⟩ := c5 j hj
            have next : ∀ x7, mtk m cs mk ck j = false → AW mJ4_getNode G d Qr Qx 0 0 H1 137 [some (vR (some M)), some (vR (some k)), some (vR (some tb1)), some (vR (some f9)), some (vR (some (nd j))), some (vI (nI 16)), some (vI (sprd (hsh ck mk))), x7] [] := by
              intro x7 hmj
              have hno2 : ∀ x, x < j + 1 → mtk m cs mk ck x = false := by
                intro x hx
                by_cases hxj : x = j
                · rw [hxj]; exact hmj
                · exact hno x (by omega)
              cases hnx : find9 (fun i => bkt (hs i) == bkt (hs j)) (j + 1) (n - (j + 1)) with
              | none =>
                rw [hnx] at n5
                have n5' : gR H1 125 (nd j) = none := n5
                refine r_aload dJ4_getNode_137 rfl ?_
                refine r_getR dJ4_getNode_139 fR_J4_177 (by first | assumption | (simp only [kd_sI, kd_sR, kd_sA, kd_sQ, kd_sL, kd_sD, ln_sI, ln_sR, ln_sA, ln_sQ, ln_sL, ln_sD, gI_sR, gI_sA, gI_sQ, gI_sL, gI_sD, gR_sI, gR_sA, gR_sQ, gR_sL, gR_sD, gA_sI, gA_sR, gA_sQ, gA_sL, gA_sD, gQ_sI, gQ_sR, gQ_sA, gQ_sL, gQ_sD, gL_sI, gL_sR, gL_sA, gL_sQ, gL_sD]; assumption) | simp [kd_sI, kd_sR, kd_sA, kd_sQ, kd_sL, kd_sD, ln_sI, ln_sR, ln_sA, ln_sQ, ln_sL, ln_sD, gI_sR, gI_sA, gI_sQ, gI_sL, gI_sD, gR_sI, gR_sA, gR_sQ, gR_sL, gR_sD, gA_sI, gA_sR, gA_sQ, gA_sL, gA_sD, gQ_sI, gQ_sR, gQ_sA, gQ_sL, gQ_sD, gL_sI, gL_sR, gL_sA, gL_sQ, gL_sD, kd_nO, kd_nA, *]) (by first | assumption | exact gI_sIs | exact gR_sRs | with_reducible rfl | (simp only [kd_sI, kd_sR, kd_sA, kd_sQ, kd_sL, kd_sD, ln_sI, ln_sR, ln_sA, ln_sQ, ln_sL, ln_sD, gI_sR, gI_sA, gI_sQ, gI_sL, gI_sD, gR_sI, gR_sA, gR_sQ, gR_sL, gR_sD, gA_sI, gA_sR, gA_sQ, gA_sL, gA_sD, gQ_sI, gQ_sR, gQ_sA, gQ_sL, gQ_sD, gL_sI, gL_sR, gL_sA, gL_sQ, gL_sD]; first | done | assumption | with_reducible rfl) | rfl) ?_
                refine r_dup dJ4_getNode_142 rfl ?_
                refine r_astore dJ4_getNode_143 (Nat.le_of_ble_eq_true rfl) (by simp only [lset]; rfl) ?_
                refine r_ifnonnull (tgt := 99) dJ4_getNode_145 (by decide) (fun a145 h145 => ?_) (fun h145 => ?_)
                · cases h145
                · refine none9 _ (fun x hx => ?_)
                  by_cases hxj : x < j + 1
                  · exact hno2 x hxj
                  · have := find9_no hnx x (by omega) (by omega)
                    cases hm : mtk m cs mk ck x with
                    | false => rfl
                    | true =>
                      have e9 := hmtB x hx hm
                      rw [e9, hB, hbj] at this
                      simp at this
              | some j2 =>
                rw [hnx] at n5
                have n5' : gR H1 125 (nd j) = some (nd j2) := n5
                obtain ⟨p1, p2, p3, p4⟩ := find9_in hnx
                have p3' : bkt (hs j2) = bkt (hs j) := by simpa using p3
                refine r_aload dJ4_getNode_137 rfl ?_
                refine r_getR dJ4_getNode_139 fR_J4_177 (by first | assumption | (simp only [kd_sI, kd_sR, kd_sA, kd_sQ, kd_sL, kd_sD, ln_sI, ln_sR, ln_sA, ln_sQ, ln_sL, ln_sD, gI_sR, gI_sA, gI_sQ, gI_sL, gI_sD, gR_sI, gR_sA, gR_sQ, gR_sL, gR_sD, gA_sI, gA_sR, gA_sQ, gA_sL, gA_sD, gQ_sI, gQ_sR, gQ_sA, gQ_sL, gQ_sD, gL_sI, gL_sR, gL_sA, gL_sQ, gL_sD]; assumption) | simp [kd_sI, kd_sR, kd_sA, kd_sQ, kd_sL, kd_sD, ln_sI, ln_sR, ln_sA, ln_sQ, ln_sL, ln_sD, gI_sR, gI_sA, gI_sQ, gI_sL, gI_sD, gR_sI, gR_sA, gR_sQ, gR_sL, gR_sD, gA_sI, gA_sR, gA_sQ, gA_sL, gA_sD, gQ_sI, gQ_sR, gQ_sA, gQ_sL, gQ_sD, gL_sI, gL_sR, gL_sA, gL_sQ, gL_sD, kd_nO, kd_nA, *]) (by first | assumption | exact gI_sIs | exact gR_sRs | with_reducible rfl | (simp only [kd_sI, kd_sR, kd_sA, kd_sQ, kd_sL, kd_sD, ln_sI, ln_sR, ln_sA, ln_sQ, ln_sL, ln_sD, gI_sR, gI_sA, gI_sQ, gI_sL, gI_sD, gR_sI, gR_sA, gR_sQ, gR_sL, gR_sD, gA_sI, gA_sR, gA_sQ, gA_sL, gA_sD, gQ_sI, gQ_sR, gQ_sA, gQ_sL, gQ_sD, gL_sI, gL_sR, gL_sA, gL_sQ, gL_sD]; first | done | assumption | with_reducible rfl) | rfl) ?_
                refine r_dup dJ4_getNode_142 rfl ?_
                refine r_astore dJ4_getNode_143 (Nat.le_of_ble_eq_true rfl) (by simp only [lset]; rfl) ?_
                refine r_ifnonnull (tgt := 99) dJ4_getNode_145 (by decide) (fun a145 h145 => ?_) (fun h145 => ?_)
                · cases h145
                  refine ih j2 f9 _ (by omega) (by omega) (p3'.trans hbj) (fun x hx => ?_)
                  by_cases hxj : x < j + 1
                  · exact hno2 x hxj
                  · have := p4 x (by omega) hx
                    cases hm : mtk m cs mk ck x with
                    | false => rfl
                    | true =>
                      have e9 := hmtB x (by omega) hm
                      rw [e9, hB, hbj] at this
                      simp at this
                · cases h145
            have found : ∀ x7, mtk m cs mk ck j = true → AW mJ4_getNode G d Qr Qx 0 0 H1 134 [some (vR (some M)), some (vR (some k)), some (vR (some tb1)), some (vR (some f9)), some (vR (some (nd j))), some (vI (nI 16)), some (vI (sprd (hsh ck mk))), x7] [] := by
              intro x7 hmj
              have e : find9 (mtk m cs mk ck) 0 n = some j := find9_is (by omega) (by omega) hmj (fun x _ hx => hno x hx)
              rw [e] at hQ
              refine r_aload dJ4_getNode_134 rfl ?_
              refine r_areturn dJ4_getNode_136 rfl (by first | exact Or.inl ⟨_, rfl⟩ | exact Or.inr ⟨_, rfl⟩) ?_
              exact hQ H1 hK hkS (Or.inl hh1)
            refine r_aload dJ4_getNode_99 rfl ?_
            refine r_getI dJ4_getNode_101 fR_J4_168 (by first | assumption | (simp only [kd_sI, kd_sR, kd_sA, kd_sQ, kd_sL, kd_sD, ln_sI, ln_sR, ln_sA, ln_sQ, ln_sL, ln_sD, gI_sR, gI_sA, gI_sQ, gI_sL, gI_sD, gR_sI, gR_sA, gR_sQ, gR_sL, gR_sD, gA_sI, gA_sR, gA_sQ, gA_sL, gA_sD, gQ_sI, gQ_sR, gQ_sA, gQ_sL, gQ_sD, gL_sI, gL_sR, gL_sA, gL_sQ, gL_sD]; assumption) | simp [kd_sI, kd_sR, kd_sA, kd_sQ, kd_sL, kd_sD, ln_sI, ln_sR, ln_sA, ln_sQ, ln_sL, ln_sD, gI_sR, gI_sA, gI_sQ, gI_sL, gI_sD, gR_sI, gR_sA, gR_sQ, gR_sL, gR_sD, gA_sI, gA_sR, gA_sQ, gA_sL, gA_sD, gQ_sI, gQ_sR, gQ_sA, gQ_sL, gQ_sD, gL_sI, gL_sR, gL_sA, gL_sQ, gL_sD, kd_nO, kd_nA, *]) (by first | assumption | exact gI_sIs | exact gR_sRs | with_reducible rfl | (simp only [kd_sI, kd_sR, kd_sA, kd_sQ, kd_sL, kd_sD, ln_sI, ln_sR, ln_sA, ln_sQ, ln_sL, ln_sD, gI_sR, gI_sA, gI_sQ, gI_sL, gI_sD, gR_sI, gR_sA, gR_sQ, gR_sL, gR_sD, gA_sI, gA_sR, gA_sQ, gA_sL, gA_sD, gQ_sI, gQ_sR, gQ_sA, gQ_sL, gQ_sD, gL_sI, gL_sR, gL_sA, gL_sQ, gL_sD]; first | done | assumption | with_reducible rfl) | rfl) ?_
            refine r_iload dJ4_getNode_104 rfl ?_
            refine r_icmp_ne (tgt := 137) dJ4_getNode_106 (by decide) (fun h106 => ?_) (fun h106 => ?_)
            · refine next _ ?_
              cases hm : mtk m cs mk ck j with
              | false => rfl
              | true => exact absurd (hmtB j hj hm) h106
            · refine r_aload dJ4_getNode_109 rfl ?_
              refine r_getR dJ4_getNode_111 fR_J4_170 (by first | assumption | (simp only [kd_sI, kd_sR, kd_sA, kd_sQ, kd_sL, kd_sD, ln_sI, ln_sR, ln_sA, ln_sQ, ln_sL, ln_sD, gI_sR, gI_sA, gI_sQ, gI_sL, gI_sD, gR_sI, gR_sA, gR_sQ, gR_sL, gR_sD, gA_sI, gA_sR, gA_sQ, gA_sL, gA_sD, gQ_sI, gQ_sR, gQ_sA, gQ_sL, gQ_sD, gL_sI, gL_sR, gL_sA, gL_sQ, gL_sD]; assumption) | simp [kd_sI, kd_sR, kd_sA, kd_sQ, kd_sL, kd_sD, ln_sI, ln_sR, ln_sA, ln_sQ, ln_sL, ln_sD, gI_sR, gI_sA, gI_sQ, gI_sL, gI_sD, gR_sI, gR_sA, gR_sQ, gR_sL, gR_sD, gA_sI, gA_sR, gA_sQ, gA_sL, gA_sD, gQ_sI, gQ_sR, gQ_sA, gQ_sL, gQ_sD, gL_sI, gL_sR, gL_sA, gL_sQ, gL_sD, kd_nO, kd_nA, *]) (by first | assumption | exact gI_sIs | exact gR_sRs | with_reducible rfl | (simp only [kd_sI, kd_sR, kd_sA, kd_sQ, kd_sL, kd_sD, ln_sI, ln_sR, ln_sA, ln_sQ, ln_sL, ln_sD, gI_sR, gI_sA, gI_sQ, gI_sL, gI_sD, gR_sI, gR_sA, gR_sQ, gR_sL, gR_sD, gA_sI, gA_sR, gA_sQ, gA_sL, gA_sD, gQ_sI, gQ_sR, gQ_sA, gQ_sL, gQ_sD, gL_sI, gL_sR, gL_sA, gL_sQ, gL_sD]; first | done | assumption | with_reducible rfl) | rfl) ?_
              refine r_dup dJ4_getNode_114 rfl ?_
              refine r_astore dJ4_getNode_115 (Nat.le_of_ble_eq_true rfl) (by simp only [lset]; rfl) ?_
              refine r_aload_n (i := 1) dJ4_getNode_117 rfl rfl ?_
              refine r_acmp_eq (tgt := 134) dJ4_getNode_118 (by decide) (fun h118 => ?_) (fun h118 => ?_)
              · refine found _ (decide_eq_true ?_)
                have hkk : ky j = k := Option.some.inj h118
                have e9 := hks1 j hj
                rw [hkk] at e9
                exact ST.inj hk1 e9
              · refine r_aload_n (i := 1) dJ4_getNode_121 rfl rfl ?_
                refine r_ifnull (tgt := 137) dJ4_getNode_122 (by decide) (fun h122 => ?_) (fun a122 h122 => ?_)
                · cases h122
                · refine r_aload_n (i := 1) dJ4_getNode_125 rfl rfl ?_
                  refine r_aload dJ4_getNode_126 rfl ?_
                  refine r_callU (As := [_]) (mc' := 0) (ms' := 0) dJ4_getNode_128 k_J4_173_J8 rfl (by first | assumption | (simp only [kd_sI, kd_sR, kd_sA, kd_sQ, kd_sL, kd_sD, ln_sI, ln_sR, ln_sA, ln_sQ, ln_sL, ln_sD, gI_sR, gI_sA, gI_sQ, gI_sL, gI_sD, gR_sI, gR_sA, gR_sQ, gR_sL, gR_sD, gA_sI, gA_sR, gA_sQ, gA_sL, gA_sD, gQ_sI, gQ_sR, gQ_sA, gQ_sL, gQ_sD, gL_sI, gL_sR, gL_sA, gL_sQ, gL_sD]; assumption) | simp [kd_sI, kd_sR, kd_sA, kd_sQ, kd_sL, kd_sD, ln_sI, ln_sR, ln_sA, ln_sQ, ln_sL, ln_sD, gI_sR, gI_sA, gI_sQ, gI_sL, gI_sD, gR_sI, gR_sA, gR_sQ, gR_sL, gR_sD, gA_sI, gA_sR, gA_sQ, gA_sL, gA_sD, gQ_sI, gQ_sR, gQ_sA, gQ_sL, gQ_sD, gL_sI, gL_sR, gL_sA, gL_sQ, gL_sD, kd_nO, kd_nA, *]) (T := TJ8) (N := 4) rfl (by first | assumption | omega) (by first | assumption | omega) (by first | assumption | omega) (Nat.le_of_ble_eq_true rfl) ?_
                  refine s_strEquals (b := mtk m cs mk ck j) (by omega) hk1 (hks1 j hj) rfl ?_
                  show AW mJ4_getNode G d Qr Qx _ _ H1 131 _ _
                  refine r_if_eq (tgt := 137) dJ4_getNode_131 (by decide) (fun h131 => ?_) (fun h131 => ?_)
                  · exact next _ (bI_eq0.mp h131)
                  · exact found _ (bI_ne0 h131)
        cases hf : find9 (fun j => bkt (hs j) == B) 0 n with
        | none =>
          rw [hf] at gB
          have gB' : gQ H1 5100 tb1 B = none := gB
          refine r_nald dJ4_getNode_30 (by first | assumption | (simp only [kd_sI, kd_sR, kd_sA, kd_sQ, kd_sL, kd_sD, ln_sI, ln_sR, ln_sA, ln_sQ, ln_sL, ln_sD, gI_sR, gI_sA, gI_sQ, gI_sL, gI_sD, gR_sI, gR_sA, gR_sQ, gR_sL, gR_sD, gA_sI, gA_sR, gA_sQ, gA_sL, gA_sD, gQ_sI, gQ_sR, gQ_sA, gQ_sL, gQ_sD, gL_sI, gL_sR, gL_sA, gL_sQ, gL_sD]; assumption) | simp [kd_sI, kd_sR, kd_sA, kd_sQ, kd_sL, kd_sD, ln_sI, ln_sR, ln_sA, ln_sQ, ln_sL, ln_sD, gI_sR, gI_sA, gI_sQ, gI_sL, gI_sD, gR_sI, gR_sA, gR_sQ, gR_sL, gR_sD, gA_sI, gA_sR, gA_sQ, gA_sL, gA_sD, gQ_sI, gQ_sR, gQ_sA, gQ_sL, gQ_sD, gL_sI, gL_sR, gL_sA, gL_sQ, gL_sD, kd_nO, kd_nA, *]) (by first | decide | assumption) (by first | assumption | exact gI_sIs | exact gR_sRs | with_reducible rfl | (simp only [kd_sI, kd_sR, kd_sA, kd_sQ, kd_sL, kd_sD, ln_sI, ln_sR, ln_sA, ln_sQ, ln_sL, ln_sD, gI_sR, gI_sA, gI_sQ, gI_sL, gI_sD, gR_sI, gR_sA, gR_sQ, gR_sL, gR_sD, gA_sI, gA_sR, gA_sQ, gA_sL, gA_sD, gQ_sI, gQ_sR, gQ_sA, gQ_sL, gQ_sD, gL_sI, gL_sR, gL_sA, gL_sQ, gL_sD]; first | done | assumption | with_reducible rfl) | rfl) (by first | with_reducible rfl | assumption | (simp only [nI_add, pk_mul, nI_1]; with_reducible rfl)) (by first | assumption | omega) (by first | assumption | omega) (by first | assumption | exact gI_sIs | exact gR_sRs | with_reducible rfl | (simp only [kd_sI, kd_sR, kd_sA, kd_sQ, kd_sL, kd_sD, ln_sI, ln_sR, ln_sA, ln_sQ, ln_sL, ln_sD, gI_sR, gI_sA, gI_sQ, gI_sL, gI_sD, gR_sI, gR_sA, gR_sQ, gR_sL, gR_sD, gA_sI, gA_sR, gA_sQ, gA_sL, gA_sD, gQ_sI, gQ_sR, gQ_sA, gQ_sL, gQ_sD, gL_sI, gL_sR, gL_sA, gL_sQ, gL_sD]; first | done | assumption | with_reducible rfl) | rfl) ?_
          refine r_dup dJ4_getNode_31 rfl ?_
          refine r_astore_n (i := 3) dJ4_getNode_32 rfl (Nat.le_of_ble_eq_true rfl) (by simp only [lset]; rfl) ?_
          refine r_ifnull (tgt := 148) dJ4_getNode_33 (by decide) (fun h33 => ?_) (fun a33 h33 => ?_)
          · refine none9 _ (fun x hx => ?_)
            have := find9_no hf x (by omega) (by omega)
            cases hm : mtk m cs mk ck x with
            | false => rfl
            | true =>
              have e9 := hmtB x hx hm
              rw [e9, hB] at this
              simp at this
          · cases h33
        | some j =>
          rw [hf] at gB
          have gB' : gQ H1 5100 tb1 B = some (nd j) := gB
          obtain ⟨p1, p2, p3, p4⟩ := find9_in hf
          have hbj : bkt (hs j) = B := by simpa using p3
          have hj : j < n := by omega
          obtain ⟨n1, n2, n3, n4, n5⟩ := c5 j hj
          have hno : ∀ x, x < j → mtk m cs mk ck x = false := by
            intro x hx
            have := p4 x (by omega) hx
            cases hm : mtk m cs mk ck x with
            | false => rfl
            | true =>
              have e9 := hmtB x (by omega) hm
              rw [e9, hB] at this
              simp at this
          refine r_nald dJ4_getNode_30 (by first | assumption | (simp only [kd_sI, kd_sR, kd_sA, kd_sQ, kd_sL, kd_sD, ln_sI, ln_sR, ln_sA, ln_sQ, ln_sL, ln_sD, gI_sR, gI_sA, gI_sQ, gI_sL, gI_sD, gR_sI, gR_sA, gR_sQ, gR_sL, gR_sD, gA_sI, gA_sR, gA_sQ, gA_sL, gA_sD, gQ_sI, gQ_sR, gQ_sA, gQ_sL, gQ_sD, gL_sI, gL_sR, gL_sA, gL_sQ, gL_sD]; assumption) | simp [kd_sI, kd_sR, kd_sA, kd_sQ, kd_sL, kd_sD, ln_sI, ln_sR, ln_sA, ln_sQ, ln_sL, ln_sD, gI_sR, gI_sA, gI_sQ, gI_sL, gI_sD, gR_sI, gR_sA, gR_sQ, gR_sL, gR_sD, gA_sI, gA_sR, gA_sQ, gA_sL, gA_sD, gQ_sI, gQ_sR, gQ_sA, gQ_sL, gQ_sD, gL_sI, gL_sR, gL_sA, gL_sQ, gL_sD, kd_nO, kd_nA, *]) (by first | decide | assumption) (by first | assumption | exact gI_sIs | exact gR_sRs | with_reducible rfl | (simp only [kd_sI, kd_sR, kd_sA, kd_sQ, kd_sL, kd_sD, ln_sI, ln_sR, ln_sA, ln_sQ, ln_sL, ln_sD, gI_sR, gI_sA, gI_sQ, gI_sL, gI_sD, gR_sI, gR_sA, gR_sQ, gR_sL, gR_sD, gA_sI, gA_sR, gA_sQ, gA_sL, gA_sD, gQ_sI, gQ_sR, gQ_sA, gQ_sL, gQ_sD, gL_sI, gL_sR, gL_sA, gL_sQ, gL_sD]; first | done | assumption | with_reducible rfl) | rfl) (by first | with_reducible rfl | assumption | (simp only [nI_add, pk_mul, nI_1]; with_reducible rfl)) (by first | assumption | omega) (by first | assumption | omega) (by first | assumption | exact gI_sIs | exact gR_sRs | with_reducible rfl | (simp only [kd_sI, kd_sR, kd_sA, kd_sQ, kd_sL, kd_sD, ln_sI, ln_sR, ln_sA, ln_sQ, ln_sL, ln_sD, gI_sR, gI_sA, gI_sQ, gI_sL, gI_sD, gR_sI, gR_sA, gR_sQ, gR_sL, gR_sD, gA_sI, gA_sR, gA_sQ, gA_sL, gA_sD, gQ_sI, gQ_sR, gQ_sA, gQ_sL, gQ_sD, gL_sI, gL_sR, gL_sA, gL_sQ, gL_sD]; first | done | assumption | with_reducible rfl) | rfl) ?_
          refine r_dup dJ4_getNode_31 rfl ?_
          refine r_astore_n (i := 3) dJ4_getNode_32 rfl (Nat.le_of_ble_eq_true rfl) (by simp only [lset]; rfl) ?_
          refine r_ifnull (tgt := 148) dJ4_getNode_33 (by decide) (fun h33 => ?_) (fun a33 h33 => ?_)
          · cases h33
          · have next : ∀ x4 x7, mtk m cs mk ck j = false → AW mJ4_getNode G d Qr Qx 0 0 H1 71 [some (vR (some M)), some (vR (some k)), some (vR (some tb1)), some (vR (some (nd j))), x4, some (vI (nI 16)), some (vI (sprd (hsh ck mk))), x7] [] := by
              intro x4 x7 hmj
              have hno2 : ∀ x, x < j + 1 → mtk m cs mk ck x = false := by
                intro x hx
                by_cases hxj : x = j
                · rw [hxj]; exact hmj
                · exact hno x (by omega)
              cases hnx : find9 (fun i => bkt (hs i) == bkt (hs j)) (j + 1) (n - (j + 1)) with
              | none =>
                rw [hnx] at n5
                have n5' : gR H1 125 (nd j) = none := n5
                refine r_aload_n (i := 3) dJ4_getNode_71 rfl rfl ?_
                refine r_getR dJ4_getNode_72 fR_J4_177 (by first | assumption | (simp only [kd_sI, kd_sR, kd_sA, kd_sQ, kd_sL, kd_sD, ln_sI, ln_sR, ln_sA, ln_sQ, ln_sL, ln_sD, gI_sR, gI_sA, gI_sQ, gI_sL, gI_sD, gR_sI, gR_sA, gR_sQ, gR_sL, gR_sD, gA_sI, gA_sR, gA_sQ, gA_sL, gA_sD, gQ_sI, gQ_sR, gQ_sA, gQ_sL, gQ_sD, gL_sI, gL_sR, gL_sA, gL_sQ, gL_sD]; assumption) | simp [kd_sI, kd_sR, kd_sA, kd_sQ, kd_sL, kd_sD, ln_sI, ln_sR, ln_sA, ln_sQ, ln_sL, ln_sD, gI_sR, gI_sA, gI_sQ, gI_sL, gI_sD, gR_sI, gR_sA, gR_sQ, gR_sL, gR_sD, gA_sI, gA_sR, gA_sQ, gA_sL, gA_sD, gQ_sI, gQ_sR, gQ_sA, gQ_sL, gQ_sD, gL_sI, gL_sR, gL_sA, gL_sQ, gL_sD, kd_nO, kd_nA, *]) (by first | assumption | exact gI_sIs | exact gR_sRs | with_reducible rfl | (simp only [kd_sI, kd_sR, kd_sA, kd_sQ, kd_sL, kd_sD, ln_sI, ln_sR, ln_sA, ln_sQ, ln_sL, ln_sD, gI_sR, gI_sA, gI_sQ, gI_sL, gI_sD, gR_sI, gR_sA, gR_sQ, gR_sL, gR_sD, gA_sI, gA_sR, gA_sQ, gA_sL, gA_sD, gQ_sI, gQ_sR, gQ_sA, gQ_sL, gQ_sD, gL_sI, gL_sR, gL_sA, gL_sQ, gL_sD]; first | done | assumption | with_reducible rfl) | rfl) ?_
                refine r_dup dJ4_getNode_75 rfl ?_
                refine r_astore dJ4_getNode_76 (Nat.le_of_ble_eq_true rfl) (by simp only [lset]; rfl) ?_
                refine r_ifnull (tgt := 148) dJ4_getNode_78 (by decide) (fun h78 => ?_) (fun a78 h78 => ?_)
                · refine none9 _ (fun x hx => ?_)
                  by_cases hxj : x < j + 1
                  · exact hno2 x hxj
                  · have := find9_no hnx x (by omega) (by omega)
                    cases hm : mtk m cs mk ck x with
                    | false => rfl
                    | true =>
                      have e9 := hmtB x hx hm
                      rw [e9, hB, hbj] at this
                      simp at this
                · cases h78
              | some j2 =>
                rw [hnx] at n5
                have n5' : gR H1 125 (nd j) = some (nd j2) := n5
                obtain ⟨p1, p2, p3, p4⟩ := find9_in hnx
                have p3' : bkt (hs j2) = bkt (hs j) := by simpa using p3
                refine r_aload_n (i := 3) dJ4_getNode_71 rfl rfl ?_
                refine r_getR dJ4_getNode_72 fR_J4_177 (by first | assumption | (simp only [kd_sI, kd_sR, kd_sA, kd_sQ, kd_sL, kd_sD, ln_sI, ln_sR, ln_sA, ln_sQ, ln_sL, ln_sD, gI_sR, gI_sA, gI_sQ, gI_sL, gI_sD, gR_sI, gR_sA, gR_sQ, gR_sL, gR_sD, gA_sI, gA_sR, gA_sQ, gA_sL, gA_sD, gQ_sI, gQ_sR, gQ_sA, gQ_sL, gQ_sD, gL_sI, gL_sR, gL_sA, gL_sQ, gL_sD]; assumption) | simp [kd_sI, kd_sR, kd_sA, kd_sQ, kd_sL, kd_sD, ln_sI, ln_sR, ln_sA, ln_sQ, ln_sL, ln_sD, gI_sR, gI_sA, gI_sQ, gI_sL, gI_sD, gR_sI, gR_sA, gR_sQ, gR_sL, gR_sD, gA_sI, gA_sR, gA_sQ, gA_sL, gA_sD, gQ_sI, gQ_sR, gQ_sA, gQ_sL, gQ_sD, gL_sI, gL_sR, gL_sA, gL_sQ, gL_sD, kd_nO, kd_nA, *]) (by first | assumption | exact gI_sIs | exact gR_sRs | with_reducible rfl | (simp only [kd_sI, kd_sR, kd_sA, kd_sQ, kd_sL, kd_sD, ln_sI, ln_sR, ln_sA, ln_sQ, ln_sL, ln_sD, gI_sR, gI_sA, gI_sQ, gI_sL, gI_sD, gR_sI, gR_sA, gR_sQ, gR_sL, gR_sD, gA_sI, gA_sR, gA_sQ, gA_sL, gA_sD, gQ_sI, gQ_sR, gQ_sA, gQ_sL, gQ_sD, gL_sI, gL_sR, gL_sA, gL_sQ, gL_sD]; first | done | assumption | with_reducible rfl) | rfl) ?_
                refine r_dup dJ4_getNode_75 rfl ?_
                refine r_astore dJ4_getNode_76 (Nat.le_of_ble_eq_true rfl) (by simp only [lset]; rfl) ?_
                refine r_ifnull (tgt := 148) dJ4_getNode_78 (by decide) (fun h78 => ?_) (fun a78 h78 => ?_)
                · cases h78
                · refine r_aload_n (i := 3) dJ4_getNode_81 rfl rfl ?_
                  refine r_instNo dJ4_getNode_82 (by first | assumption | (simp only [kd_sI, kd_sR, kd_sA, kd_sQ, kd_sL, kd_sD, ln_sI, ln_sR, ln_sA, ln_sQ, ln_sL, ln_sD, gI_sR, gI_sA, gI_sQ, gI_sL, gI_sD, gR_sI, gR_sA, gR_sQ, gR_sL, gR_sD, gA_sI, gA_sR, gA_sQ, gA_sL, gA_sD, gQ_sI, gQ_sR, gQ_sA, gQ_sL, gQ_sD, gL_sI, gL_sR, gL_sA, gL_sQ, gL_sD]; assumption) | simp [kd_sI, kd_sR, kd_sA, kd_sQ, kd_sL, kd_sD, ln_sI, ln_sR, ln_sA, ln_sQ, ln_sL, ln_sD, gI_sR, gI_sA, gI_sQ, gI_sL, gI_sD, gR_sI, gR_sA, gR_sQ, gR_sL, gR_sD, gA_sI, gA_sR, gA_sQ, gA_sL, gA_sD, gQ_sI, gQ_sR, gQ_sA, gQ_sL, gQ_sD, gL_sI, gL_sR, gL_sA, gL_sQ, gL_sD, kd_nO, kd_nA, *]) (T := TJ24) (N := 4) rfl q793 (List.mem_of_getElem? (i := 532) rfl) ?_
                  refine r_if_eq (tgt := 99) dJ4_getNode_85 (by decide) (fun h85 => ?_) (fun h85 => ?_)
                  · refine loop (n - j2) j2 _ _ (Nat.le_refl _) (by omega) (p3'.trans hbj) (fun x hx => ?_)
                    by_cases hxj : x < j + 1
                    · exact hno2 x hxj
                    · have := p4 x (by omega) hx
                      cases hm : mtk m cs mk ck x with
                      | false => rfl
                      | true =>
                        have e9 := hmtB x (by omega) hm
                        rw [e9, hB, hbj] at this
                        simp at this
                  · exact absurd rfl h85
            have found : ∀ x4 x7, mtk m cs mk ck j = true → AW mJ4_getNode G d Qr Qx 0 0 H1 69 [some (vR (some M)), some (vR (some k)), some (vR (some tb1)), some (vR (some (nd j))), x4, some (vI (nI 16)), some (vI (sprd (hsh ck mk))), x7] [] := by
              intro x4 x7 hmj
              have e : find9 (mtk m cs mk ck) 0 n = some j := find9_is (by omega) (by omega) hmj (fun x _ hx => hno x hx)
              rw [e] at hQ
              refine r_aload_n (i := 3) dJ4_getNode_69 rfl rfl ?_
              refine r_areturn dJ4_getNode_70 rfl (by first | exact Or.inl ⟨_, rfl⟩ | exact Or.inr ⟨_, rfl⟩) ?_
              exact hQ H1 hK hkS (Or.inl hh1)
            refine r_aload_n (i := 3) dJ4_getNode_36 rfl rfl ?_
            refine r_getI dJ4_getNode_37 fR_J4_168 (by first | assumption | (simp only [kd_sI, kd_sR, kd_sA, kd_sQ, kd_sL, kd_sD, ln_sI, ln_sR, ln_sA, ln_sQ, ln_sL, ln_sD, gI_sR, gI_sA, gI_sQ, gI_sL, gI_sD, gR_sI, gR_sA, gR_sQ, gR_sL, gR_sD, gA_sI, gA_sR, gA_sQ, gA_sL, gA_sD, gQ_sI, gQ_sR, gQ_sA, gQ_sL, gQ_sD, gL_sI, gL_sR, gL_sA, gL_sQ, gL_sD]; assumption) | simp [kd_sI, kd_sR, kd_sA, kd_sQ, kd_sL, kd_sD, ln_sI, ln_sR, ln_sA, ln_sQ, ln_sL, ln_sD, gI_sR, gI_sA, gI_sQ, gI_sL, gI_sD, gR_sI, gR_sA, gR_sQ, gR_sL, gR_sD, gA_sI, gA_sR, gA_sQ, gA_sL, gA_sD, gQ_sI, gQ_sR, gQ_sA, gQ_sL, gQ_sD, gL_sI, gL_sR, gL_sA, gL_sQ, gL_sD, kd_nO, kd_nA, *]) (by first | assumption | exact gI_sIs | exact gR_sRs | with_reducible rfl | (simp only [kd_sI, kd_sR, kd_sA, kd_sQ, kd_sL, kd_sD, ln_sI, ln_sR, ln_sA, ln_sQ, ln_sL, ln_sD, gI_sR, gI_sA, gI_sQ, gI_sL, gI_sD, gR_sI, gR_sA, gR_sQ, gR_sL, gR_sD, gA_sI, gA_sR, gA_sQ, gA_sL, gA_sD, gQ_sI, gQ_sR, gQ_sA, gQ_sL, gQ_sD, gL_sI, gL_sR, gL_sA, gL_sQ, gL_sD]; first | done | assumption | with_reducible rfl) | rfl) ?_
            refine r_iload dJ4_getNode_40 rfl ?_
            refine r_icmp_ne (tgt := 71) dJ4_getNode_42 (by decide) (fun h42 => ?_) (fun h42 => ?_)
            · refine next _ _ ?_
              cases hm : mtk m cs mk ck j with
              | false => rfl
              | true => exact absurd (hmtB j hj hm) h42
            · refine r_aload_n (i := 3) dJ4_getNode_45 rfl rfl ?_
              refine r_getR dJ4_getNode_46 fR_J4_170 (by first | assumption | (simp only [kd_sI, kd_sR, kd_sA, kd_sQ, kd_sL, kd_sD, ln_sI, ln_sR, ln_sA, ln_sQ, ln_sL, ln_sD, gI_sR, gI_sA, gI_sQ, gI_sL, gI_sD, gR_sI, gR_sA, gR_sQ, gR_sL, gR_sD, gA_sI, gA_sR, gA_sQ, gA_sL, gA_sD, gQ_sI, gQ_sR, gQ_sA, gQ_sL, gQ_sD, gL_sI, gL_sR, gL_sA, gL_sQ, gL_sD]; assumption) | simp [kd_sI, kd_sR, kd_sA, kd_sQ, kd_sL, kd_sD, ln_sI, ln_sR, ln_sA, ln_sQ, ln_sL, ln_sD, gI_sR, gI_sA, gI_sQ, gI_sL, gI_sD, gR_sI, gR_sA, gR_sQ, gR_sL, gR_sD, gA_sI, gA_sR, gA_sQ, gA_sL, gA_sD, gQ_sI, gQ_sR, gQ_sA, gQ_sL, gQ_sD, gL_sI, gL_sR, gL_sA, gL_sQ, gL_sD, kd_nO, kd_nA, *]) (by first | assumption | exact gI_sIs | exact gR_sRs | with_reducible rfl | (simp only [kd_sI, kd_sR, kd_sA, kd_sQ, kd_sL, kd_sD, ln_sI, ln_sR, ln_sA, ln_sQ, ln_sL, ln_sD, gI_sR, gI_sA, gI_sQ, gI_sL, gI_sD, gR_sI, gR_sA, gR_sQ, gR_sL, gR_sD, gA_sI, gA_sR, gA_sQ, gA_sL, gA_sD, gQ_sI, gQ_sR, gQ_sA, gQ_sL, gQ_sD, gL_sI, gL_sR, gL_sA, gL_sQ, gL_sD]; first | done | assumption | with_reducible rfl) | rfl) ?_
              refine r_dup dJ4_getNode_49 rfl ?_
              refine r_astore dJ4_getNode_50 (Nat.le_of_ble_eq_true rfl) (by simp only [lset]; rfl) ?_
              refine r_aload_n (i := 1) dJ4_getNode_52 rfl rfl ?_
              refine r_acmp_eq (tgt := 69) dJ4_getNode_53 (by decide) (fun h53 => ?_) (fun h53 => ?_)
              · refine found _ _ (decide_eq_true ?_)
                have hkk : ky j = k := Option.some.inj h53
                have e9 := hks1 j hj
                rw [hkk] at e9
                exact ST.inj hk1 e9
              · refine r_aload_n (i := 1) dJ4_getNode_56 rfl rfl ?_
                refine r_ifnull (tgt := 71) dJ4_getNode_57 (by decide) (fun h57 => ?_) (fun a57 h57 => ?_)
                · cases h57
                · refine r_aload_n (i := 1) dJ4_getNode_60 rfl rfl ?_
                  refine r_aload dJ4_getNode_61 rfl ?_
                  refine r_callU (As := [_]) (mc' := 0) (ms' := 0) dJ4_getNode_63 k_J4_173_J8 rfl (by first | assumption | (simp only [kd_sI, kd_sR, kd_sA, kd_sQ, kd_sL, kd_sD, ln_sI, ln_sR, ln_sA, ln_sQ, ln_sL, ln_sD, gI_sR, gI_sA, gI_sQ, gI_sL, gI_sD, gR_sI, gR_sA, gR_sQ, gR_sL, gR_sD, gA_sI, gA_sR, gA_sQ, gA_sL, gA_sD, gQ_sI, gQ_sR, gQ_sA, gQ_sL, gQ_sD, gL_sI, gL_sR, gL_sA, gL_sQ, gL_sD]; assumption) | simp [kd_sI, kd_sR, kd_sA, kd_sQ, kd_sL, kd_sD, ln_sI, ln_sR, ln_sA, ln_sQ, ln_sL, ln_sD, gI_sR, gI_sA, gI_sQ, gI_sL, gI_sD, gR_sI, gR_sA, gR_sQ, gR_sL, gR_sD, gA_sI, gA_sR, gA_sQ, gA_sL, gA_sD, gQ_sI, gQ_sR, gQ_sA, gQ_sL, gQ_sD, gL_sI, gL_sR, gL_sA, gL_sQ, gL_sD, kd_nO, kd_nA, *]) (T := TJ8) (N := 4) rfl (by first | assumption | omega) (by first | assumption | omega) (by first | assumption | omega) (Nat.le_of_ble_eq_true rfl) ?_
                  refine s_strEquals (b := mtk m cs mk ck j) (by omega) hk1 (hks1 j hj) rfl ?_
                  show AW mJ4_getNode G d Qr Qx _ _ H1 66 _ _
                  refine r_if_eq (tgt := 71) dJ4_getNode_66 (by decide) (fun h66 => ?_) (fun h66 => ?_)
                  · exact next _ _ (bI_eq0.mp h66)
                  · exact found _ _ (bI_ne0 h66)
end Map
