set_option maxRecDepth 100000
/-! HASH MAPS: making, looking up, a new key -/
theorem f9_ext {p p' : Nat → Bool} {i k : Nat} (hp : ∀ x, i ≤ x → x < i + k → p' x = p x) (hl : p' (i + k) = false ∨ ∃ j, find9 p i k = some j) : find9 p' i (k + 1) = find9 p i k := by
  cases hf : find9 p i k with
  | some j =>
    obtain ⟨g1, g2, g3, g4⟩ := find9_in hf
    exact find9_is g1 (by omega) (by rw [hp j g1 g2]; exact g3) (fun x h1 h2 => by rw [hp x h1 (by omega)]; exact g4 x h1 h2)
  | none =>
    refine find9_isno (fun x h1 h2 => ?_)
    by_cases hx : x = i + k
    · rw [hx]
      rcases hl with hl | ⟨j, hj⟩
      · exact hl
      · rw [hf] at hj; cases hj
    · rw [hp x h1 (by omega)]
      exact find9_no hf x h1 (by omega)
theorem f9_new {p p' : Nat → Bool} {i k : Nat} (hp : ∀ x, i ≤ x → x < i + k → p' x = p x) (hn : find9 p i k = none) (ht : p' (i + k) = true) : find9 p' i (k + 1) = some (i + k) :=
  find9_is (by omega) (by omega) ht (fun x h1 h2 => by rw [hp x h1 h2]; exact find9_no hn x h1 h2)
/-- f but for x at n -/
def upA {α : Type} (f : Nat → α) (n : Nat) (x : α) (i : Nat) : α := if i = n then x else f i
theorem upA_n {α : Type} {f : Nat → α} {n : Nat} {x : α} : upA f n x n = x := by unfold upA; rw [if_pos rfl]
theorem upA_o {α : Type} {f : Nat → α} {n i : Nat} {x : α} (h : i < n) : upA f n x i = f i := by unfold upA; rw [if_neg (by omega)]
theorem map_cg {o : Option Nat} {f g : Nat → Nat} (h : ∀ j, o = some j → f j = g j) : o.map f = o.map g := by
  cases o with
  | none => rfl
  | some j => rw [Option.map_some, Option.map_some, h j rfl]
section Map2
variable {G : Gl} {d : Nat} {Qr : Option AV → AH → Prop} {Qx : String → Nat → AH → Prop} {H : AH} {M n : Nat} {hs : Nat → Int32} {ky vl nd : Nat → Nat}
theorem s_mapInit (hd : 2 ≤ d) (hk : kd H M = 21) (hz1 : gI H 102 M = 0) (hz2 : gR H 100 M = none) (hz3 : gI H 104 M = 0) (hQ : ∀ H', Ks (fun a => a = M) H H' → HM H' M 0 hs ky vl nd → gR H' 100 M = none → Qr none H') : AMet G d 0 0 yJ4_init wJ4_init H [vR (some M)] Qr Qx := by
  refine AMet.of (M := mJ4_init) (maxL := 1) (by first | rfl | decide +kernel) rfl (Nat.le_of_ble_eq_true rfl) ?_
  show AW mJ4_init _ _ _ _ _ _ _ 0 [some (vR (some M))] []
  refine r_aload_n (i := 0) dJ4_init_0 rfl rfl ?_
  refine r_callI (As := []) (mc' := 0) (ms' := 0) dJ4_init_1 k_J4_43 rfl (by first | assumption | omega) (by first | assumption | omega) (by first | assumption | omega) (Nat.le_of_ble_eq_true rfl) ?_
  refine s_amInit (by omega) ?_
  show AW mJ4_init G d Qr Qx _ _ _ 4 _ _
  refine r_aload_n (i := 0) dJ4_init_4 rfl rfl ?_
  refine r_ldcf dJ4_init_5 q193 ?_
  refine r_putF dJ4_init_7 fG_J4_81 (fun _ => by first | rfl | contradiction) (by first | assumption | (simp only [kd_sI, kd_sR, kd_sA, kd_sQ, kd_sL, kd_sD, ln_sI, ln_sR, ln_sA, ln_sQ, ln_sL, ln_sD, gI_sR, gI_sA, gI_sQ, gI_sL, gI_sD, gR_sI, gR_sA, gR_sQ, gR_sL, gR_sD, gA_sI, gA_sR, gA_sQ, gA_sL, gA_sD, gQ_sI, gQ_sR, gQ_sA, gQ_sL, gQ_sD, gL_sI, gL_sR, gL_sA, gL_sQ, gL_sD]; assumption) | simp [kd_sI, kd_sR, kd_sA, kd_sQ, kd_sL, kd_sD, ln_sI, ln_sR, ln_sA, ln_sQ, ln_sL, ln_sD, gI_sR, gI_sA, gI_sQ, gI_sL, gI_sD, gR_sI, gR_sA, gR_sQ, gR_sL, gR_sD, gA_sI, gA_sR, gA_sQ, gA_sL, gA_sD, gQ_sI, gQ_sR, gQ_sA, gQ_sL, gQ_sD, gL_sI, gL_sR, gL_sA, gL_sQ, gL_sD, kd_nO, kd_nA, *]) ?_
  refine r_return dJ4_init_10 rfl ?_
  refine hQ _ ((Ks.rf (S := fun a => a = M)).sI (fun _ => rfl)) ⟨hk, ?_, by decide, Or.inl ⟨rfl, hz2, ?_⟩, fun i hi => absurd hi (by omega), fun i j hi => absurd hi (by omega)⟩ hz2
  · rw [gI_sIn (by decide)]
    exact hz1
  · rw [gI_sIn (by decide)]
    exact hz3
theorem s_mapGet {k mk : Nat} {ck : Nat → Nat} {m : Nat → Nat} {cs : Nat → Nat → Nat} (hd : 6 ≤ d) (h : HM H M n hs ky vl nd) (hk : ST H k mk ck) (hks : ∀ i, i < n → ST H (ky i) (m i) (cs i)) (hh : ∀ i, i < n → hs i = sprd (hsh (cs i) (m i))) (hQ : ∀ H', Ks (SH H k) H H' → STK H H' k mk ck → gI H' 115 k = hsh ck mk ∨ n = 0 → Qr (some (vR ((find9 (mtk m cs mk ck) 0 n).map vl))) H') : AMet G d 0 0 yJ4_get wJ4_get H [vR (some M), vR (some k)] Qr Qx := by
  have a1 := h.1
  have a5 := h.2.2.2.2.1
  refine AMet.of (M := mJ4_get) (maxL := 3) (by first | rfl | decide +kernel) rfl (Nat.le_of_ble_eq_true rfl) ?_
  show AW mJ4_get _ _ _ _ _ _ _ 0 [some (vR (some M)), some (vR (some k)), none] []
  refine r_aload_n (i := 0) dJ4_get_0 rfl rfl ?_
  refine r_aload_n (i := 1) dJ4_get_1 rfl rfl ?_
  refine r_callV (As := [_]) (mc' := 0) (ms' := 0) dJ4_get_2 k_J4_158 rfl (by first | assumption | (simp only [kd_sI, kd_sR, kd_sA, kd_sQ, kd_sL, kd_sD, ln_sI, ln_sR, ln_sA, ln_sQ, ln_sL, ln_sD, gI_sR, gI_sA, gI_sQ, gI_sL, gI_sD, gR_sI, gR_sA, gR_sQ, gR_sL, gR_sD, gA_sI, gA_sR, gA_sQ, gA_sL, gA_sD, gQ_sI, gQ_sR, gQ_sA, gQ_sL, gQ_sD, gL_sI, gL_sR, gL_sA, gL_sQ, gL_sD]; assumption) | simp [kd_sI, kd_sR, kd_sA, kd_sQ, kd_sL, kd_sD, ln_sI, ln_sR, ln_sA, ln_sQ, ln_sL, ln_sD, gI_sR, gI_sA, gI_sQ, gI_sL, gI_sD, gR_sI, gR_sA, gR_sQ, gR_sL, gR_sD, gA_sI, gA_sR, gA_sQ, gA_sL, gA_sD, gQ_sI, gQ_sR, gQ_sA, gQ_sL, gQ_sD, gL_sI, gL_sR, gL_sA, gL_sQ, gL_sD, kd_nO, kd_nA, *]) (T := TJ4) (N := 8) rfl (by first | assumption | omega) (by first | assumption | omega) (by first | assumption | omega) (Nat.le_of_ble_eq_true rfl) ?_
  refine s_getNode (by omega) h hk hks hh (fun H1 hK hk1 hh1 => ?_)
  have hne24 : ∀ a, kd H a ≠ 24 → ¬ SH H k a := fun a ha q => ha (by rw [q.1]; exact hk.1)
  cases hf : find9 (mtk m cs mk ck) 0 n with
  | none =>
    rw [hf] at hQ
    show AW mJ4_get G d Qr Qx _ _ H1 5 _ _
    refine r_dup dJ4_get_5 rfl ?_
    refine r_astore_n (i := 2) dJ4_get_6 rfl (Nat.le_of_ble_eq_true rfl) (by simp only [lset]; rfl) ?_
    refine r_ifnonnull (tgt := 14) dJ4_get_7 (by decide) (fun a7 h7 => ?_) (fun h7 => ?_)
    · cases h7
    · refine r_null dJ4_get_10 ?_
      refine r_goto (tgt := 18) dJ4_get_11 (by decide) ?_
      refine r_areturn dJ4_get_18 rfl (by first | exact Or.inl ⟨_, rfl⟩ | exact Or.inr ⟨_, rfl⟩) ?_
      exact hQ H1 hK hk1 hh1
  | some j =>
    rw [hf] at hQ
    obtain ⟨p1, p2, -, -⟩ := find9_in hf
    obtain ⟨c1, -, -, c4, -⟩ := a5 j (by omega)
    have e := hK.at (a := nd j) (by rw [c1]; decide) (hne24 _ (by rw [c1]; decide))
    have c1' : kd H1 (nd j) = 27 := by rw [at_kd e]; exact c1
    have c4' : gR H1 124 (nd j) = some (vl j) := by rw [at_gR e]; exact c4
    show AW mJ4_get G d Qr Qx _ _ H1 5 _ _
    refine r_dup dJ4_get_5 rfl ?_
    refine r_astore_n (i := 2) dJ4_get_6 rfl (Nat.le_of_ble_eq_true rfl) (by simp only [lset]; rfl) ?_
    refine r_ifnonnull (tgt := 14) dJ4_get_7 (by decide) (fun a7 h7 => ?_) (fun h7 => ?_)
    · cases h7
      refine r_aload_n (i := 2) dJ4_get_14 rfl rfl ?_
      refine r_getR dJ4_get_15 fR_J4_162 (by first | assumption | (simp only [kd_sI, kd_sR, kd_sA, kd_sQ, kd_sL, kd_sD, ln_sI, ln_sR, ln_sA, ln_sQ, ln_sL, ln_sD, gI_sR, gI_sA, gI_sQ, gI_sL, gI_sD, gR_sI, gR_sA, gR_sQ, gR_sL, gR_sD, gA_sI, gA_sR, gA_sQ, gA_sL, gA_sD, gQ_sI, gQ_sR, gQ_sA, gQ_sL, gQ_sD, gL_sI, gL_sR, gL_sA, gL_sQ, gL_sD]; assumption) | simp [kd_sI, kd_sR, kd_sA, kd_sQ, kd_sL, kd_sD, ln_sI, ln_sR, ln_sA, ln_sQ, ln_sL, ln_sD, gI_sR, gI_sA, gI_sQ, gI_sL, gI_sD, gR_sI, gR_sA, gR_sQ, gR_sL, gR_sD, gA_sI, gA_sR, gA_sQ, gA_sL, gA_sD, gQ_sI, gQ_sR, gQ_sA, gQ_sL, gQ_sD, gL_sI, gL_sR, gL_sA, gL_sQ, gL_sD, kd_nO, kd_nA, *]) (by first | assumption | exact gI_sIs | exact gR_sRs | with_reducible rfl | (simp only [kd_sI, kd_sR, kd_sA, kd_sQ, kd_sL, kd_sD, ln_sI, ln_sR, ln_sA, ln_sQ, ln_sL, ln_sD, gI_sR, gI_sA, gI_sQ, gI_sL, gI_sD, gR_sI, gR_sA, gR_sQ, gR_sL, gR_sD, gA_sI, gA_sR, gA_sQ, gA_sL, gA_sD, gQ_sI, gQ_sR, gQ_sA, gQ_sL, gQ_sD, gL_sI, gL_sR, gL_sA, gL_sQ, gL_sD]; first | done | assumption | with_reducible rfl) | rfl) ?_
      refine r_areturn dJ4_get_18 rfl (by first | exact Or.inl ⟨_, rfl⟩ | exact Or.inr ⟨_, rfl⟩) ?_
      exact hQ H1 hK hk1 hh1
    · cases h7
theorem s_nodeInit {q k v : Nat} {h : Int32} (hd : 1 ≤ d) (hk : kd H q = 27) (hQ : Qr none (sR (sR (sR (sI H 122 q h) 123 q (some k)) 124 q (some v)) 125 q none)) : AMet G d 0 0 yJ24_init wJ24_init H [vR (some q), vI h, vR (some k), vR (some v), vR none] Qr Qx := by
  refine AMet.of (M := mJ24_init) (maxL := 5) (by first | rfl | decide +kernel) rfl (Nat.le_of_ble_eq_true rfl) ?_
  show AW mJ24_init _ _ _ _ _ _ _ 0 [some (vR (some q)), some (vI h), some (vR (some k)), some (vR (some v)), some (vR none)] []
  refine r_aload_n (i := 0) dJ24_init_0 rfl rfl ?_
  refine r_objInit dJ24_init_1 q1304 (by with_reducible rfl) (by first | assumption | omega) (Nat.le_of_ble_eq_true rfl) ?_
  refine r_aload_n (i := 0) dJ24_init_4 rfl rfl ?_
  refine r_iload_n (i := 1) dJ24_init_5 rfl rfl ?_
  refine r_putI dJ24_init_6 fG_J24_7 (fun _ => by first | rfl | contradiction) (by first | assumption | (simp only [kd_sI, kd_sR, kd_sA, kd_sQ, kd_sL, kd_sD, ln_sI, ln_sR, ln_sA, ln_sQ, ln_sL, ln_sD, gI_sR, gI_sA, gI_sQ, gI_sL, gI_sD, gR_sI, gR_sA, gR_sQ, gR_sL, gR_sD, gA_sI, gA_sR, gA_sQ, gA_sL, gA_sD, gQ_sI, gQ_sR, gQ_sA, gQ_sL, gQ_sD, gL_sI, gL_sR, gL_sA, gL_sQ, gL_sD]; assumption) | simp [kd_sI, kd_sR, kd_sA, kd_sQ, kd_sL, kd_sD, ln_sI, ln_sR, ln_sA, ln_sQ, ln_sL, ln_sD, gI_sR, gI_sA, gI_sQ, gI_sL, gI_sD, gR_sI, gR_sA, gR_sQ, gR_sL, gR_sD, gA_sI, gA_sR, gA_sQ, gA_sL, gA_sD, gQ_sI, gQ_sR, gQ_sA, gQ_sL, gQ_sD, gL_sI, gL_sR, gL_sA, gL_sQ, gL_sD, kd_nO, kd_nA, *]) (by first | rfl | assumption) (by first | rfl | assumption) ?_
  refine r_aload_n (i := 0) dJ24_init_9 rfl rfl ?_
  refine r_aload_n (i := 2) dJ24_init_10 rfl rfl ?_
  refine r_putR dJ24_init_11 fG_J24_13 (fun _ => by first | rfl | contradiction) (by first | assumption | (simp only [kd_sI, kd_sR, kd_sA, kd_sQ, kd_sL, kd_sD, ln_sI, ln_sR, ln_sA, ln_sQ, ln_sL, ln_sD, gI_sR, gI_sA, gI_sQ, gI_sL, gI_sD, gR_sI, gR_sA, gR_sQ, gR_sL, gR_sD, gA_sI, gA_sR, gA_sQ, gA_sL, gA_sD, gQ_sI, gQ_sR, gQ_sA, gQ_sL, gQ_sD, gL_sI, gL_sR, gL_sA, gL_sQ, gL_sD]; assumption) | simp [kd_sI, kd_sR, kd_sA, kd_sQ, kd_sL, kd_sD, ln_sI, ln_sR, ln_sA, ln_sQ, ln_sL, ln_sD, gI_sR, gI_sA, gI_sQ, gI_sL, gI_sD, gR_sI, gR_sA, gR_sQ, gR_sL, gR_sD, gA_sI, gA_sR, gA_sQ, gA_sL, gA_sD, gQ_sI, gQ_sR, gQ_sA, gQ_sL, gQ_sD, gL_sI, gL_sR, gL_sA, gL_sQ, gL_sD, kd_nO, kd_nA, *]) (by first | exact Or.inl ⟨_, rfl⟩ | exact Or.inr ⟨_, rfl⟩) ?_
  refine r_aload_n (i := 0) dJ24_init_14 rfl rfl ?_
  refine r_aload_n (i := 3) dJ24_init_15 rfl rfl ?_
  refine r_putR dJ24_init_16 fG_J24_17 (fun _ => by first | rfl | contradiction) (by first | assumption | (simp only [kd_sI, kd_sR, kd_sA, kd_sQ, kd_sL, kd_sD, ln_sI, ln_sR, ln_sA, ln_sQ, ln_sL, ln_sD, gI_sR, gI_sA, gI_sQ, gI_sL, gI_sD, gR_sI, gR_sA, gR_sQ, gR_sL, gR_sD, gA_sI, gA_sR, gA_sQ, gA_sL, gA_sD, gQ_sI, gQ_sR, gQ_sA, gQ_sL, gQ_sD, gL_sI, gL_sR, gL_sA, gL_sQ, gL_sD]; assumption) | simp [kd_sI, kd_sR, kd_sA, kd_sQ, kd_sL, kd_sD, ln_sI, ln_sR, ln_sA, ln_sQ, ln_sL, ln_sD, gI_sR, gI_sA, gI_sQ, gI_sL, gI_sD, gR_sI, gR_sA, gR_sQ, gR_sL, gR_sD, gA_sI, gA_sR, gA_sQ, gA_sL, gA_sD, gQ_sI, gQ_sR, gQ_sA, gQ_sL, gQ_sD, gL_sI, gL_sR, gL_sA, gL_sQ, gL_sD, kd_nO, kd_nA, *]) (by first | exact Or.inl ⟨_, rfl⟩ | exact Or.inr ⟨_, rfl⟩) ?_
  refine r_aload_n (i := 0) dJ24_init_19 rfl rfl ?_
  refine r_aload dJ24_init_20 rfl ?_
  refine r_putR dJ24_init_22 fG_J24_20 (fun _ => by first | rfl | contradiction) (by first | assumption | (simp only [kd_sI, kd_sR, kd_sA, kd_sQ, kd_sL, kd_sD, ln_sI, ln_sR, ln_sA, ln_sQ, ln_sL, ln_sD, gI_sR, gI_sA, gI_sQ, gI_sL, gI_sD, gR_sI, gR_sA, gR_sQ, gR_sL, gR_sD, gA_sI, gA_sR, gA_sQ, gA_sL, gA_sD, gQ_sI, gQ_sR, gQ_sA, gQ_sL, gQ_sD, gL_sI, gL_sR, gL_sA, gL_sQ, gL_sD]; assumption) | simp [kd_sI, kd_sR, kd_sA, kd_sQ, kd_sL, kd_sD, ln_sI, ln_sR, ln_sA, ln_sQ, ln_sL, ln_sD, gI_sR, gI_sA, gI_sQ, gI_sL, gI_sD, gR_sI, gR_sA, gR_sQ, gR_sL, gR_sD, gA_sI, gA_sR, gA_sQ, gA_sL, gA_sD, gQ_sI, gQ_sR, gQ_sA, gQ_sL, gQ_sD, gL_sI, gL_sR, gL_sA, gL_sQ, gL_sD, kd_nO, kd_nA, *]) (by first | exact Or.inl ⟨_, rfl⟩ | exact Or.inr ⟨_, rfl⟩) ?_
  refine r_return dJ24_init_25 rfl ?_
  exact hQ
theorem s_newNode {k v : Nat} {h : Int32} (hd : 2 ≤ d) (hQ : ∀ q, kd H q = 0 → Qr (some (vR (some q))) (sR (sR (sR (sI (nO H q 27) 122 q h) 123 q (some k)) 124 q (some v)) 125 q none)) : AMet G d 1 4 yJ4_newNode wJ4_newNode H [vR (some M), vI h, vR (some k), vR (some v), vR none] Qr Qx := by
  refine AMet.of (M := mJ4_newNode) (maxL := 5) (by first | rfl | decide +kernel) rfl (Nat.le_of_ble_eq_true rfl) ?_
  show AW mJ4_newNode _ _ _ _ _ _ _ 0 [some (vR (some M)), some (vI h), some (vR (some k)), some (vR (some v)), some (vR none)] []
  refine r_new dJ4_newNode_0 cT_J24 q1285 q1300 q112 (by decide +kernel) (by first | assumption | omega) (by first | assumption | omega) (fun q0 hq0 => ?_)
  refine r_dup dJ4_newNode_3 rfl ?_
  refine r_iload_n (i := 1) dJ4_newNode_4 rfl rfl ?_
  refine r_aload_n (i := 2) dJ4_newNode_5 rfl rfl ?_
  refine r_aload_n (i := 3) dJ4_newNode_6 rfl rfl ?_
  refine r_aload dJ4_newNode_7 rfl ?_
  have k0 : kd (nO H q0 27) q0 = 27 := by rw [kd_nO, if_pos rfl]
  refine r_callI (As := [_, _, _, _]) (mc' := 0) (ms' := 0) dJ4_newNode_9 k_J4_375 rfl (by first | assumption | omega) (by first | assumption | omega) (by first | assumption | omega) (Nat.le_of_ble_eq_true rfl) ?_
  refine s_nodeInit (by omega) k0 ?_
  show AW mJ4_newNode G d Qr Qx _ _ _ 12 _ _
  refine r_areturn dJ4_newNode_12 rfl (by first | exact Or.inl ⟨_, rfl⟩ | exact Or.inr ⟨_, rfl⟩) ?_
  exact hQ q0 hq0
theorem s_resize0 (hk : kd H M = 21) (h1 : gR H 100 M = none) (h2 : gI H 104 M = nI 0) (hQ : ∀ q, kd H q = 0 → Qr (some (vR (some q))) (sR (nA (sI H 104 M (nI 12)) q 5100 16) 100 M (some q))) : AMet G d 1 16 yJ4_resize wJ4_resize H [vR (some M)] Qr Qx := by
  refine AMet.of (M := mJ4_resize) (maxL := 14) (by first | rfl | decide +kernel) rfl (Nat.le_of_ble_eq_true rfl) ?_
  show AW mJ4_resize _ _ _ _ _ _ _ 0 [some (vR (some M)), none, none, none, none, none, none, none, none, none, none, none, none, none] []
  refine r_aload_n (i := 0) dJ4_resize_0 rfl rfl ?_
  refine r_getR dJ4_resize_1 fR_J4_105 (by first | assumption | (simp only [kd_sI, kd_sR, kd_sA, kd_sQ, kd_sL, kd_sD, ln_sI, ln_sR, ln_sA, ln_sQ, ln_sL, ln_sD, gI_sR, gI_sA, gI_sQ, gI_sL, gI_sD, gR_sI, gR_sA, gR_sQ, gR_sL, gR_sD, gA_sI, gA_sR, gA_sQ, gA_sL, gA_sD, gQ_sI, gQ_sR, gQ_sA, gQ_sL, gQ_sD, gL_sI, gL_sR, gL_sA, gL_sQ, gL_sD]; assumption) | simp [kd_sI, kd_sR, kd_sA, kd_sQ, kd_sL, kd_sD, ln_sI, ln_sR, ln_sA, ln_sQ, ln_sL, ln_sD, gI_sR, gI_sA, gI_sQ, gI_sL, gI_sD, gR_sI, gR_sA, gR_sQ, gR_sL, gR_sD, gA_sI, gA_sR, gA_sQ, gA_sL, gA_sD, gQ_sI, gQ_sR, gQ_sA, gQ_sL, gQ_sD, gL_sI, gL_sR, gL_sA, gL_sQ, gL_sD, kd_nO, kd_nA, *]) (by first | assumption | exact gI_sIs | exact gR_sRs | with_reducible rfl | (simp only [kd_sI, kd_sR, kd_sA, kd_sQ, kd_sL, kd_sD, ln_sI, ln_sR, ln_sA, ln_sQ, ln_sL, ln_sD, gI_sR, gI_sA, gI_sQ, gI_sL, gI_sD, gR_sI, gR_sA, gR_sQ, gR_sL, gR_sD, gA_sI, gA_sR, gA_sQ, gA_sL, gA_sD, gQ_sI, gQ_sR, gQ_sA, gQ_sL, gQ_sD, gL_sI, gL_sR, gL_sA, gL_sQ, gL_sD]; first | done | assumption | with_reducible rfl) | rfl) ?_
  refine r_astore_n (i := 1) dJ4_resize_4 rfl (Nat.le_of_ble_eq_true rfl) (by simp only [lset]; rfl) ?_
  refine r_aload_n (i := 1) dJ4_resize_5 rfl rfl ?_
  refine r_ifnonnull (tgt := 13) dJ4_resize_6 (by decide) (fun a6 h6 => ?_) (fun h6 => ?_)
  · cases h6
  · refine r_iconst (v := nI 0) dJ4_resize_9 (by decide) ?_
    refine r_goto (tgt := 15) dJ4_resize_10 (by decide) ?_
    refine r_istore_n (i := 2) dJ4_resize_15 rfl (Nat.le_of_ble_eq_true rfl) (by simp only [lset]; rfl) ?_
    refine r_aload_n (i := 0) dJ4_resize_16 rfl rfl ?_
    refine r_getI dJ4_resize_17 fR_J4_88 (by first | assumption | (simp only [kd_sI, kd_sR, kd_sA, kd_sQ, kd_sL, kd_sD, ln_sI, ln_sR, ln_sA, ln_sQ, ln_sL, ln_sD, gI_sR, gI_sA, gI_sQ, gI_sL, gI_sD, gR_sI, gR_sA, gR_sQ, gR_sL, gR_sD, gA_sI, gA_sR, gA_sQ, gA_sL, gA_sD, gQ_sI, gQ_sR, gQ_sA, gQ_sL, gQ_sD, gL_sI, gL_sR, gL_sA, gL_sQ, gL_sD]; assumption) | simp [kd_sI, kd_sR, kd_sA, kd_sQ, kd_sL, kd_sD, ln_sI, ln_sR, ln_sA, ln_sQ, ln_sL, ln_sD, gI_sR, gI_sA, gI_sQ, gI_sL, gI_sD, gR_sI, gR_sA, gR_sQ, gR_sL, gR_sD, gA_sI, gA_sR, gA_sQ, gA_sL, gA_sD, gQ_sI, gQ_sR, gQ_sA, gQ_sL, gQ_sD, gL_sI, gL_sR, gL_sA, gL_sQ, gL_sD, kd_nO, kd_nA, *]) (by first | assumption | exact gI_sIs | exact gR_sRs | with_reducible rfl | (simp only [kd_sI, kd_sR, kd_sA, kd_sQ, kd_sL, kd_sD, ln_sI, ln_sR, ln_sA, ln_sQ, ln_sL, ln_sD, gI_sR, gI_sA, gI_sQ, gI_sL, gI_sD, gR_sI, gR_sA, gR_sQ, gR_sL, gR_sD, gA_sI, gA_sR, gA_sQ, gA_sL, gA_sD, gQ_sI, gQ_sR, gQ_sA, gQ_sL, gQ_sD, gL_sI, gL_sR, gL_sA, gL_sQ, gL_sD]; first | done | assumption | with_reducible rfl) | rfl) ?_
    refine r_istore_n (i := 3) dJ4_resize_20 rfl (Nat.le_of_ble_eq_true rfl) (by simp only [lset]; rfl) ?_
    refine r_iconst (v := nI 0) dJ4_resize_21 (by decide) ?_
    refine r_istore dJ4_resize_22 (Nat.le_of_ble_eq_true rfl) (by simp only [lset]; rfl) ?_
    refine r_iload_n (i := 2) dJ4_resize_24 rfl rfl ?_
    refine r_if_le (tgt := 67) dJ4_resize_25 (by decide) (fun h25 => ?_) (fun h25 => ?_)
    · refine r_iload_n (i := 3) dJ4_resize_67 rfl rfl ?_
      refine r_if_le (tgt := 77) dJ4_resize_68 (by decide) (fun h68 => ?_) (fun h68 => ?_)
      · refine r_bipush (v := nI 16) dJ4_resize_77 (by decide) ?_
        refine r_istore dJ4_resize_79 (Nat.le_of_ble_eq_true rfl) (by simp only [lset]; rfl) ?_
        refine r_bipush (v := nI 12) dJ4_resize_81 (by decide) ?_
        refine r_istore dJ4_resize_83 (Nat.le_of_ble_eq_true rfl) (by simp only [lset]; rfl) ?_
        refine r_iload dJ4_resize_85 rfl ?_
        refine r_if_ne (tgt := 125) dJ4_resize_87 (by decide) (fun h87 => ?_) (fun h87 => ?_)
        · refine r_aload_n (i := 0) dJ4_resize_125 rfl rfl ?_
          refine r_iload dJ4_resize_126 rfl ?_
          refine r_putI dJ4_resize_128 fG_J4_88 (fun _ => by first | rfl | contradiction) (by first | assumption | (simp only [kd_sI, kd_sR, kd_sA, kd_sQ, kd_sL, kd_sD, ln_sI, ln_sR, ln_sA, ln_sQ, ln_sL, ln_sD, gI_sR, gI_sA, gI_sQ, gI_sL, gI_sD, gR_sI, gR_sA, gR_sQ, gR_sL, gR_sD, gA_sI, gA_sR, gA_sQ, gA_sL, gA_sD, gQ_sI, gQ_sR, gQ_sA, gQ_sL, gQ_sD, gL_sI, gL_sR, gL_sA, gL_sQ, gL_sD]; assumption) | simp [kd_sI, kd_sR, kd_sA, kd_sQ, kd_sL, kd_sD, ln_sI, ln_sR, ln_sA, ln_sQ, ln_sL, ln_sD, gI_sR, gI_sA, gI_sQ, gI_sL, gI_sD, gR_sI, gR_sA, gR_sQ, gR_sL, gR_sD, gA_sI, gA_sR, gA_sQ, gA_sL, gA_sD, gQ_sI, gQ_sR, gQ_sA, gQ_sL, gQ_sD, gL_sI, gL_sR, gL_sA, gL_sQ, gL_sD, kd_nO, kd_nA, *]) (by first | rfl | assumption) (by first | rfl | assumption) ?_
          refine r_iload dJ4_resize_131 rfl ?_
          refine r_new_node 5100 dJ4_resize_133 q1285 (by decide) (by first | with_reducible rfl | assumption | (simp only [nI_add, pk_mul, nI_1]; with_reducible rfl)) (by first | assumption | omega) (by first | assumption | omega) (by first | assumption | omega) (fun q133 hq133 => ?_)
          refine r_astore dJ4_resize_136 (Nat.le_of_ble_eq_true rfl) (by simp only [lset]; rfl) ?_
          refine r_aload_n (i := 0) dJ4_resize_138 rfl rfl ?_
          refine r_aload dJ4_resize_139 rfl ?_
          have hne : ¬ M = q133 := fun h => by rw [h] at hk; exact absurd (hk.symm.trans hq133) (by decide)
          refine r_putR dJ4_resize_141 fG_J4_105 (fun _ => by first | rfl | contradiction) (by first | assumption | (simp only [kd_sI, kd_sR, kd_sA, kd_sQ, kd_sL, kd_sD, ln_sI, ln_sR, ln_sA, ln_sQ, ln_sL, ln_sD, gI_sR, gI_sA, gI_sQ, gI_sL, gI_sD, gR_sI, gR_sA, gR_sQ, gR_sL, gR_sD, gA_sI, gA_sR, gA_sQ, gA_sL, gA_sD, gQ_sI, gQ_sR, gQ_sA, gQ_sL, gQ_sD, gL_sI, gL_sR, gL_sA, gL_sQ, gL_sD]; assumption) | simp [kd_sI, kd_sR, kd_sA, kd_sQ, kd_sL, kd_sD, ln_sI, ln_sR, ln_sA, ln_sQ, ln_sL, ln_sD, gI_sR, gI_sA, gI_sQ, gI_sL, gI_sD, gR_sI, gR_sA, gR_sQ, gR_sL, gR_sD, gA_sI, gA_sR, gA_sQ, gA_sL, gA_sD, gQ_sI, gQ_sR, gQ_sA, gQ_sL, gQ_sD, gL_sI, gL_sR, gL_sA, gL_sQ, gL_sD, kd_nO, kd_nA, *]) (by first | exact Or.inl ⟨_, rfl⟩ | exact Or.inr ⟨_, rfl⟩) ?_
          refine r_aload_n (i := 1) dJ4_resize_144 rfl rfl ?_
          refine r_ifnull (tgt := 353) dJ4_resize_145 (by decide) (fun h145 => ?_) (fun a145 h145 => ?_)
          · refine r_aload dJ4_resize_353 rfl ?_
            refine r_areturn dJ4_resize_355 rfl (by first | exact Or.inl ⟨_, rfl⟩ | exact Or.inr ⟨_, rfl⟩) ?_
            exact hQ q133 hq133
          · cases h145
        · exact absurd h87 (by decide)
      · exact absurd (by decide) h68
    · exact absurd (by decide) h25
theorem s_aftIns {b : Int32} (hQ : Qr none H) : AMet G d 0 0 yJ4_afterNodeInsertion wJ4_afterNodeInsertion H [vR (some M), vI b] Qr Qx := by
  refine AMet.of (M := mJ4_afterNodeInsertion) (maxL := 2) (by first | rfl | decide +kernel) rfl (Nat.le_of_ble_eq_true rfl) ?_
  show AW mJ4_afterNodeInsertion _ _ _ _ _ _ _ 0 [some (vR (some M)), some (vI b)] []
  refine r_return dJ4_afterNodeInsertion_0 rfl ?_
  exact hQ
/-- what a new key may change: the map, its table, its nodes -/
def SM (H : AH) (M n : Nat) (nd : Nat → Nat) (a : Nat) : Prop := a = M ∨ gR H 100 M = some a ∨ ∃ i, i < n ∧ a = nd i
theorem s_putVal {k mk v : Nat} {ck : Nat → Nat} {m : Nat → Nat} {cs : Nat → Nat → Nat} (hd : 3 ≤ d) (h : HM H M n hs ky vl nd) (hn : n < 6) (hk : ST H k mk ck) (hks : ∀ i, i < n → ST H (ky i) (m i) (cs i)) (hh : ∀ i, i < n → hs i = sprd (hsh (cs i) (m i))) (hnew : ∀ i, i < n → mtk m cs mk ck i = false)
    (hQ : ∀ H' nd', Ks (SM H M n nd) H H' → HM H' M (n + 1) (upA hs n (sprd (hsh ck mk))) (upA ky n k) (upA vl n v) nd' → (∀ i, i < n → nd' i = nd i) → kd H (nd' n) = 0 → (∀ tb, gR H' 100 M = some tb → gR H 100 M = some tb ∨ kd H tb = 0) → Qr (some (vR none)) H') : AMet G d 2 20 yJ4_putVal wJ4_putVal H [vR (some M), vI (sprd (hsh ck mk)), vR (some k), vR (some v), vI (nI 0), vI (nI 1)] Qr Qx := by
  obtain ⟨a1, a2, a3, a4, a5, a6⟩ := h
  have hkk : kd H k = 24 := hk.1
  obtain ⟨hv, hhv⟩ : ∃ hv, sprd (hsh ck mk) = hv := ⟨_, rfl⟩
  obtain ⟨B, hB⟩ : ∃ B, bkt hv = B := ⟨_, rfl⟩
  have hBlt : B < 16 := by rw [← hB]; exact bkt_lt _
  have eB : ((nI 16 - nI 1) &&& hv) = nI B := by
    rw [show (nI 16 - nI 1 : Int32) = nI 15 by decide, bkt_eq, hB]
  rw [hhv] at hQ ⊢
  have hSM : ∀ a, SM H M n nd a → kd H a = 21 ∨ kd H a = 5100 ∨ kd H a = 27 := by
    intro a q
    rcases q with q | q | ⟨j, hj, q⟩
    · rw [q]
      exact Or.inl a1
    · rcases a4 with ⟨-, b2, -⟩ | ⟨tb, b1, b2, -⟩
      · rw [b2] at q
        cases q
      · rw [b1] at q
        cases q
        exact Or.inr (Or.inl b2)
    · rw [q]
      exact Or.inr (Or.inr (a5 j hj).1)
  refine AMet.of (M := mJ4_putVal) (maxL := 13) (by first | rfl | decide +kernel) rfl (Nat.le_of_ble_eq_true rfl) ?_
  show AW mJ4_putVal _ _ _ _ _ _ _ 0 [some (vR (some M)), some (vI hv), some (vR (some k)), some (vR (some v)), some (vI (nI 0)), some (vI (nI 1)), none, none, none, none, none, none, none] []
  -- the end, when the new node q is linked
  have fin : ∀ (H2 : AH) (rc rs : Nat) (ls : List (Option AV)) (q tb2 : Nat), ls[0]? = some (some (vR (some M))) → ls[5]? = some (some (vI (nI 1))) → Ks (SM H M n nd) H H2 → kd H q = 0 → gI H2 102 M = nI n → (∀ i, i < n → nd i ≠ q) → gR H2 100 M = some tb2 → (gR H 100 M = some tb2 ∨ kd H tb2 = 0) → kd H2 tb2 = 5100 → ln H2 tb2 = 16 → gI H2 104 M = nI 12 → (∀ b, b < 16 → gQ H2 5100 tb2 b = (find9 (fun j => bkt (upA hs n hv j) == b) 0 (n + 1)).map (upA nd n q)) → (∀ i, i < n + 1 → kd H2 (upA nd n q i) = 27 ∧ gI H2 122 (upA nd n q i) = upA hs n hv i ∧ gR H2 123 (upA nd n q i) = some (upA ky n k i) ∧ gR H2 124 (upA nd n q i) = some (upA vl n v i) ∧ gR H2 125 (upA nd n q i) = (find9 (fun j => bkt (upA hs n hv j) == bkt (upA hs n hv i)) (i + 1) (n + 1 - (i + 1))).map (upA nd n q)) → AW mJ4_putVal G d Qr Qx rc rs H2 259 ls [] := by
    intro H2 rc rs ls q tb2 l0 l5 hK hq s1 s2 t1 t0 t2 t3 t4 t5 t6
    have k1 : kd H2 M = 21 := hK.kk a1 (by decide)
    obtain ⟨mc, hmc⟩ : ∃ mc, gI H2 103 M = mc := ⟨_, rfl⟩
    refine r_aload_n dJ4_putVal_259 rfl l0 ?_
    refine r_dup dJ4_putVal_260 rfl ?_
    refine r_getI dJ4_putVal_261 fR_J4_202 (by first | assumption | (simp only [kd_sI, kd_sR, kd_sA, kd_sQ, kd_sL, kd_sD, ln_sI, ln_sR, ln_sA, ln_sQ, ln_sL, ln_sD, gI_sR, gI_sA, gI_sQ, gI_sL, gI_sD, gR_sI, gR_sA, gR_sQ, gR_sL, gR_sD, gA_sI, gA_sR, gA_sQ, gA_sL, gA_sD, gQ_sI, gQ_sR, gQ_sA, gQ_sL, gQ_sD, gL_sI, gL_sR, gL_sA, gL_sQ, gL_sD]; assumption) | simp [kd_sI, kd_sR, kd_sA, kd_sQ, kd_sL, kd_sD, ln_sI, ln_sR, ln_sA, ln_sQ, ln_sL, ln_sD, gI_sR, gI_sA, gI_sQ, gI_sL, gI_sD, gR_sI, gR_sA, gR_sQ, gR_sL, gR_sD, gA_sI, gA_sR, gA_sQ, gA_sL, gA_sD, gQ_sI, gQ_sR, gQ_sA, gQ_sL, gQ_sD, gL_sI, gL_sR, gL_sA, gL_sQ, gL_sD, kd_nO, kd_nA, *]) (by first | assumption | exact gI_sIs | exact gR_sRs | with_reducible rfl | (simp only [kd_sI, kd_sR, kd_sA, kd_sQ, kd_sL, kd_sD, ln_sI, ln_sR, ln_sA, ln_sQ, ln_sL, ln_sD, gI_sR, gI_sA, gI_sQ, gI_sL, gI_sD, gR_sI, gR_sA, gR_sQ, gR_sL, gR_sD, gA_sI, gA_sR, gA_sQ, gA_sL, gA_sD, gQ_sI, gQ_sR, gQ_sA, gQ_sL, gQ_sD, gL_sI, gL_sR, gL_sA, gL_sQ, gL_sD]; first | done | assumption | with_reducible rfl) | rfl) ?_
    refine r_iconst (v := nI 1) dJ4_putVal_264 (by decide) ?_
    refine r_iadd dJ4_putVal_265 ?_
    try simp only [nI_add]
    refine r_putI dJ4_putVal_266 fG_J4_202 (fun _ => by first | rfl | contradiction) (by first | assumption | (simp only [kd_sI, kd_sR, kd_sA, kd_sQ, kd_sL, kd_sD, ln_sI, ln_sR, ln_sA, ln_sQ, ln_sL, ln_sD, gI_sR, gI_sA, gI_sQ, gI_sL, gI_sD, gR_sI, gR_sA, gR_sQ, gR_sL, gR_sD, gA_sI, gA_sR, gA_sQ, gA_sL, gA_sD, gQ_sI, gQ_sR, gQ_sA, gQ_sL, gQ_sD, gL_sI, gL_sR, gL_sA, gL_sQ, gL_sD]; assumption) | simp [kd_sI, kd_sR, kd_sA, kd_sQ, kd_sL, kd_sD, ln_sI, ln_sR, ln_sA, ln_sQ, ln_sL, ln_sD, gI_sR, gI_sA, gI_sQ, gI_sL, gI_sD, gR_sI, gR_sA, gR_sQ, gR_sL, gR_sD, gA_sI, gA_sR, gA_sQ, gA_sL, gA_sD, gQ_sI, gQ_sR, gQ_sA, gQ_sL, gQ_sD, gL_sI, gL_sR, gL_sA, gL_sQ, gL_sD, kd_nO, kd_nA, *]) (by first | rfl | assumption) (by first | rfl | assumption) ?_
    refine r_aload_n dJ4_putVal_269 rfl l0 ?_
    refine r_dup dJ4_putVal_270 rfl ?_
    refine r_getI dJ4_putVal_271 fR_J4_156 (by first | assumption | (simp only [kd_sI, kd_sR, kd_sA, kd_sQ, kd_sL, kd_sD, ln_sI, ln_sR, ln_sA, ln_sQ, ln_sL, ln_sD, gI_sR, gI_sA, gI_sQ, gI_sL, gI_sD, gR_sI, gR_sA, gR_sQ, gR_sL, gR_sD, gA_sI, gA_sR, gA_sQ, gA_sL, gA_sD, gQ_sI, gQ_sR, gQ_sA, gQ_sL, gQ_sD, gL_sI, gL_sR, gL_sA, gL_sQ, gL_sD]; assumption) | simp [kd_sI, kd_sR, kd_sA, kd_sQ, kd_sL, kd_sD, ln_sI, ln_sR, ln_sA, ln_sQ, ln_sL, ln_sD, gI_sR, gI_sA, gI_sQ, gI_sL, gI_sD, gR_sI, gR_sA, gR_sQ, gR_sL, gR_sD, gA_sI, gA_sR, gA_sQ, gA_sL, gA_sD, gQ_sI, gQ_sR, gQ_sA, gQ_sL, gQ_sD, gL_sI, gL_sR, gL_sA, gL_sQ, gL_sD, kd_nO, kd_nA, *]) (by first | assumption | exact gI_sIs | exact gR_sRs | with_reducible rfl | (simp only [kd_sI, kd_sR, kd_sA, kd_sQ, kd_sL, kd_sD, ln_sI, ln_sR, ln_sA, ln_sQ, ln_sL, ln_sD, gI_sR, gI_sA, gI_sQ, gI_sL, gI_sD, gR_sI, gR_sA, gR_sQ, gR_sL, gR_sD, gA_sI, gA_sR, gA_sQ, gA_sL, gA_sD, gQ_sI, gQ_sR, gQ_sA, gQ_sL, gQ_sD, gL_sI, gL_sR, gL_sA, gL_sQ, gL_sD]; first | done | assumption | with_reducible rfl) | rfl) ?_
    refine r_iconst (v := nI 1) dJ4_putVal_274 (by decide) ?_
    refine r_iadd dJ4_putVal_275 ?_
    try simp only [nI_add]
    refine r_dup_x1 dJ4_putVal_276 rfl rfl ?_
    refine r_putI dJ4_putVal_277 fG_J4_156 (fun _ => by first | rfl | contradiction) (by first | assumption | (simp only [kd_sI, kd_sR, kd_sA, kd_sQ, kd_sL, kd_sD, ln_sI, ln_sR, ln_sA, ln_sQ, ln_sL, ln_sD, gI_sR, gI_sA, gI_sQ, gI_sL, gI_sD, gR_sI, gR_sA, gR_sQ, gR_sL, gR_sD, gA_sI, gA_sR, gA_sQ, gA_sL, gA_sD, gQ_sI, gQ_sR, gQ_sA, gQ_sL, gQ_sD, gL_sI, gL_sR, gL_sA, gL_sQ, gL_sD]; assumption) | simp [kd_sI, kd_sR, kd_sA, kd_sQ, kd_sL, kd_sD, ln_sI, ln_sR, ln_sA, ln_sQ, ln_sL, ln_sD, gI_sR, gI_sA, gI_sQ, gI_sL, gI_sD, gR_sI, gR_sA, gR_sQ, gR_sL, gR_sD, gA_sI, gA_sR, gA_sQ, gA_sL, gA_sD, gQ_sI, gQ_sR, gQ_sA, gQ_sL, gQ_sD, gL_sI, gL_sR, gL_sA, gL_sQ, gL_sD, kd_nO, kd_nA, *]) (by first | rfl | assumption) (by first | rfl | assumption) ?_
    refine r_aload_n dJ4_putVal_280 rfl l0 ?_
    have k9 : kd (sI (sI H2 103 M (mc + nI 1)) 102 M (nI (n + 1))) M = 21 := k1
    have t9 : gI (sI (sI H2 103 M (mc + nI 1)) 102 M (nI (n + 1))) 104 M = nI 12 := by rw [gI_sIn (by decide), gI_sIn (by decide)]; exact t4
    refine r_getI dJ4_putVal_281 fR_J4_88 (by first | assumption | (simp only [kd_sI, kd_sR, kd_sA, kd_sQ, kd_sL, kd_sD, ln_sI, ln_sR, ln_sA, ln_sQ, ln_sL, ln_sD, gI_sR, gI_sA, gI_sQ, gI_sL, gI_sD, gR_sI, gR_sA, gR_sQ, gR_sL, gR_sD, gA_sI, gA_sR, gA_sQ, gA_sL, gA_sD, gQ_sI, gQ_sR, gQ_sA, gQ_sL, gQ_sD, gL_sI, gL_sR, gL_sA, gL_sQ, gL_sD]; assumption) | simp [kd_sI, kd_sR, kd_sA, kd_sQ, kd_sL, kd_sD, ln_sI, ln_sR, ln_sA, ln_sQ, ln_sL, ln_sD, gI_sR, gI_sA, gI_sQ, gI_sL, gI_sD, gR_sI, gR_sA, gR_sQ, gR_sL, gR_sD, gA_sI, gA_sR, gA_sQ, gA_sL, gA_sD, gQ_sI, gQ_sR, gQ_sA, gQ_sL, gQ_sD, gL_sI, gL_sR, gL_sA, gL_sQ, gL_sD, kd_nO, kd_nA, *]) (by first | assumption | exact gI_sIs | exact gR_sRs | with_reducible rfl | (simp only [kd_sI, kd_sR, kd_sA, kd_sQ, kd_sL, kd_sD, ln_sI, ln_sR, ln_sA, ln_sQ, ln_sL, ln_sD, gI_sR, gI_sA, gI_sQ, gI_sL, gI_sD, gR_sI, gR_sA, gR_sQ, gR_sL, gR_sD, gA_sI, gA_sR, gA_sQ, gA_sL, gA_sD, gQ_sI, gQ_sR, gQ_sA, gQ_sL, gQ_sD, gL_sI, gL_sR, gL_sA, gL_sQ, gL_sD]; first | done | assumption | with_reducible rfl) | rfl) ?_
    refine r_icmp_le (tgt := 292) dJ4_putVal_284 (by decide) (fun h284 => ?_) (fun h284 => ?_)
    · refine r_aload_n dJ4_putVal_292 rfl l0 ?_
      refine r_iload dJ4_putVal_293 l5 ?_
      refine r_callV (As := [_]) (mc' := 0) (ms' := 0) dJ4_putVal_295 k_J4_205 rfl (by first | assumption | (simp only [kd_sI, kd_sR, kd_sA, kd_sQ, kd_sL, kd_sD, ln_sI, ln_sR, ln_sA, ln_sQ, ln_sL, ln_sD, gI_sR, gI_sA, gI_sQ, gI_sL, gI_sD, gR_sI, gR_sA, gR_sQ, gR_sL, gR_sD, gA_sI, gA_sR, gA_sQ, gA_sL, gA_sD, gQ_sI, gQ_sR, gQ_sA, gQ_sL, gQ_sD, gL_sI, gL_sR, gL_sA, gL_sQ, gL_sD]; assumption) | simp [kd_sI, kd_sR, kd_sA, kd_sQ, kd_sL, kd_sD, ln_sI, ln_sR, ln_sA, ln_sQ, ln_sL, ln_sD, gI_sR, gI_sA, gI_sQ, gI_sL, gI_sD, gR_sI, gR_sA, gR_sQ, gR_sL, gR_sD, gA_sI, gA_sR, gA_sQ, gA_sL, gA_sD, gQ_sI, gQ_sR, gQ_sA, gQ_sL, gQ_sD, gL_sI, gL_sR, gL_sA, gL_sQ, gL_sD, kd_nO, kd_nA, *]) (T := TJ4) (N := 8) rfl (by first | assumption | omega) (by first | assumption | omega) (by first | assumption | omega) (Nat.le_of_ble_eq_true rfl) ?_
      refine s_aftIns ?_
      show AW mJ4_putVal G d Qr Qx _ _ _ 298 _ _
      refine r_null dJ4_putVal_298 ?_
      refine r_areturn dJ4_putVal_299 rfl (by first | exact Or.inl ⟨_, rfl⟩ | exact Or.inr ⟨_, rfl⟩) ?_
      have hK2 : Ks (SM H M n nd) H (sI (sI H2 103 M (mc + nI 1)) 102 M (nI (n + 1))) := (hK.sI (fun _ => Or.inl rfl)).sI (fun _ => Or.inl rfl)
      have fI : ∀ f a, f ≠ 102 → f ≠ 103 → gI (sI (sI H2 103 M (mc + nI 1)) 102 M (nI (n + 1))) f a = gI H2 f a := fun f a h1 h2 => by rw [gI_sIn h1, gI_sIn h2]
      refine hQ _ (upA nd n q) hK2 ⟨k1, gI_sIs, by omega, Or.inr ⟨tb2, t1, t2, t3, t9, t5⟩, fun i hi => ?_, fun i j hi hj e => ?_⟩ (fun i hi => upA_o hi) (by rw [upA_n]; exact hq) (fun tb ht => ?_)
      · obtain ⟨u1, u2, u3, u4, u5⟩ := t6 i hi
        exact ⟨u1, by rw [fI _ _ (by decide) (by decide)]; exact u2, u3, u4, u5⟩
      · by_cases hin : i = n
        · by_cases hjn : j = n
          · omega
          · rw [hin, upA_n, upA_o (by omega)] at e
            exact absurd e.symm (s2 j (by omega))
        · by_cases hjn : j = n
          · rw [hjn, upA_n, upA_o (by omega)] at e
            exact absurd e (s2 i (by omega))
          · rw [upA_o (by omega), upA_o (by omega)] at e
            exact a6 i j (by omega) (by omega) e
      · have : gR H2 100 M = some tb := ht
        rw [t1] at this
        cases this
        exact t0
    · exact absurd (nI_le (a := n + 1) (b := 12) (by omega) (by decide)) h284
  -- from 29 on, with a table
  have main : ∀ (H1 : AH) (tb1 : Nat) (rc rs : Nat) (x7 x8 : Option AV) (x9 x10 x11 x12 : Option AV), 1 ≤ rc → 4 ≤ rs → Ks (SM H M n nd) H H1 → (gR H 100 M = some tb1 ∨ kd H tb1 = 0) → gI H1 102 M = nI n → gR H1 100 M = some tb1 → kd H1 tb1 = 5100 → ln H1 tb1 = 16 → gI H1 104 M = nI 12 → (∀ b, b < 16 → gQ H1 5100 tb1 b = (find9 (fun j => bkt (hs j) == b) 0 n).map nd) → (∀ i, i < n → kd H1 (nd i) = 27 ∧ gI H1 122 (nd i) = hs i ∧ gR H1 123 (nd i) = some (ky i) ∧ gR H1 124 (nd i) = some (vl i) ∧ gR H1 125 (nd i) = (find9 (fun j => bkt (hs j) == bkt (hs i)) (i + 1) (n - (i + 1))).map nd) → AW mJ4_putVal G d Qr Qx rc rs H1 29 [some (vR (some M)), some (vI hv), some (vR (some k)), some (vR (some v)), some (vI (nI 0)), some (vI (nI 1)), some (vR (some tb1)), x7, some (vI (nI 16)), x9, x10, x11, x12] [] := by
    intro H1 tb1 rc rs x7 x8 x9 x10 x11 x12 hrc hrs hK t0 s1 t1 t2 t3 t4 t5 t6
    have k1 : kd H1 M = 21 := hK.kk a1 (by decide)
    have kk1 : kd H1 k = 24 := hK.kk hkk (by decide)
    have hks1 : ∀ i, i < n → ST H1 (ky i) (m i) (cs i) := fun i hi => (hks i hi).ks hK (fun q => by have h1 := hSM _ q; have h2 := (hks i hi).1; omega) (fun w hw q => by have h1 := hSM _ q; omega)
    have hk1 : ST H1 k mk ck := hk.ks hK (fun q => by have h1 := hSM _ q; omega) (fun w hw q => by have h1 := hSM _ q; omega)
    have hnk : ∀ i, i < n → ¬ (some (ky i) : Option Nat) = some k := by
      intro i hi q
      have e9 := hks1 i hi
      rw [Option.some.inj q] at e9
      have := hnew i hi
      rw [show mtk m cs mk ck i = true from decide_eq_true (ST.inj hk1 e9)] at this
      cases this
    have tM : tb1 ≠ M := ne_of_kd t2 k1 (by decide)
    refine r_aload dJ4_putVal_29 rfl ?_
    refine r_iload dJ4_putVal_31 rfl ?_
    refine r_iconst (v := nI 1) dJ4_putVal_33 (by decide) ?_
    refine r_isub dJ4_putVal_34 ?_
    refine r_iload_n (i := 1) dJ4_putVal_35 rfl rfl ?_
    refine r_iand dJ4_putVal_36 ?_
    refine r_dup dJ4_putVal_37 rfl ?_
    refine r_istore dJ4_putVal_38 (Nat.le_of_ble_eq_true rfl) (by simp only [lset]; rfl) ?_
    rw [eB]
    cases hf : find9 (fun j => bkt (hs j) == B) 0 n with
    | none =>
      have gB : gQ H1 5100 tb1 B = none := by rw [t5 B hBlt, hf]; rfl
      refine r_nald dJ4_putVal_40 (by first | assumption | (simp only [kd_sI, kd_sR, kd_sA, kd_sQ, kd_sL, kd_sD, ln_sI, ln_sR, ln_sA, ln_sQ, ln_sL, ln_sD, gI_sR, gI_sA, gI_sQ, gI_sL, gI_sD, gR_sI, gR_sA, gR_sQ, gR_sL, gR_sD, gA_sI, gA_sR, gA_sQ, gA_sL, gA_sD, gQ_sI, gQ_sR, gQ_sA, gQ_sL, gQ_sD, gL_sI, gL_sR, gL_sA, gL_sQ, gL_sD]; assumption) | simp [kd_sI, kd_sR, kd_sA, kd_sQ, kd_sL, kd_sD, ln_sI, ln_sR, ln_sA, ln_sQ, ln_sL, ln_sD, gI_sR, gI_sA, gI_sQ, gI_sL, gI_sD, gR_sI, gR_sA, gR_sQ, gR_sL, gR_sD, gA_sI, gA_sR, gA_sQ, gA_sL, gA_sD, gQ_sI, gQ_sR, gQ_sA, gQ_sL, gQ_sD, gL_sI, gL_sR, gL_sA, gL_sQ, gL_sD, kd_nO, kd_nA, *]) (by first | decide | assumption) (by first | assumption | exact gI_sIs | exact gR_sRs | with_reducible rfl | (simp only [kd_sI, kd_sR, kd_sA, kd_sQ, kd_sL, kd_sD, ln_sI, ln_sR, ln_sA, ln_sQ, ln_sL, ln_sD, gI_sR, gI_sA, gI_sQ, gI_sL, gI_sD, gR_sI, gR_sA, gR_sQ, gR_sL, gR_sD, gA_sI, gA_sR, gA_sQ, gA_sL, gA_sD, gQ_sI, gQ_sR, gQ_sA, gQ_sL, gQ_sD, gL_sI, gL_sR, gL_sA, gL_sQ, gL_sD]; first | done | assumption | with_reducible rfl) | rfl) (by first | with_reducible rfl | assumption | (simp only [nI_add, pk_mul, nI_1]; with_reducible rfl)) (by first | assumption | omega) (by first | assumption | omega) (by first | assumption | exact gI_sIs | exact gR_sRs | with_reducible rfl | (simp only [kd_sI, kd_sR, kd_sA, kd_sQ, kd_sL, kd_sD, ln_sI, ln_sR, ln_sA, ln_sQ, ln_sL, ln_sD, gI_sR, gI_sA, gI_sQ, gI_sL, gI_sD, gR_sI, gR_sA, gR_sQ, gR_sL, gR_sD, gA_sI, gA_sR, gA_sQ, gA_sL, gA_sD, gQ_sI, gQ_sR, gQ_sA, gQ_sL, gQ_sD, gL_sI, gL_sR, gL_sA, gL_sQ, gL_sD]; first | done | assumption | with_reducible rfl) | rfl) ?_
      refine r_dup dJ4_putVal_41 rfl ?_
      refine r_astore dJ4_putVal_42 (Nat.le_of_ble_eq_true rfl) (by simp only [lset]; rfl) ?_
      refine r_ifnonnull (tgt := 63) dJ4_putVal_44 (by decide) (fun a44 h44 => ?_) (fun h44 => ?_)
      · cases h44
      · refine r_aload dJ4_putVal_47 rfl ?_
        refine r_iload dJ4_putVal_49 rfl ?_
        refine r_aload_n (i := 0) dJ4_putVal_51 rfl rfl ?_
        refine r_iload_n (i := 1) dJ4_putVal_52 rfl rfl ?_
        refine r_aload_n (i := 2) dJ4_putVal_53 rfl rfl ?_
        refine r_aload_n (i := 3) dJ4_putVal_54 rfl rfl ?_
        refine r_null dJ4_putVal_55 ?_
        refine r_callV (As := [_, _, _, _]) (mc' := 1) (ms' := 4) dJ4_putVal_56 k_J4_186 rfl (by first | assumption | (simp only [kd_sI, kd_sR, kd_sA, kd_sQ, kd_sL, kd_sD, ln_sI, ln_sR, ln_sA, ln_sQ, ln_sL, ln_sD, gI_sR, gI_sA, gI_sQ, gI_sL, gI_sD, gR_sI, gR_sA, gR_sQ, gR_sL, gR_sD, gA_sI, gA_sR, gA_sQ, gA_sL, gA_sD, gQ_sI, gQ_sR, gQ_sA, gQ_sL, gQ_sD, gL_sI, gL_sR, gL_sA, gL_sQ, gL_sD]; assumption) | simp [kd_sI, kd_sR, kd_sA, kd_sQ, kd_sL, kd_sD, ln_sI, ln_sR, ln_sA, ln_sQ, ln_sL, ln_sD, gI_sR, gI_sA, gI_sQ, gI_sL, gI_sD, gR_sI, gR_sA, gR_sQ, gR_sL, gR_sD, gA_sI, gA_sR, gA_sQ, gA_sL, gA_sD, gQ_sI, gQ_sR, gQ_sA, gQ_sL, gQ_sD, gL_sI, gL_sR, gL_sA, gL_sQ, gL_sD, kd_nO, kd_nA, *]) (T := TJ4) (N := 8) rfl (by first | assumption | omega) (by first | assumption | omega) (by first | assumption | omega) (Nat.le_of_ble_eq_true rfl) ?_
        refine s_newNode (by omega) (fun q hq => ?_)
        have qk : kd H q = 0 := hK.fr hq
        have qn : ∀ a, kd H1 a ≠ 0 → a ≠ q := fun a ha e => by rw [e, hq] at ha; exact ha rfl
        refine AW.name (H := sR (sR (sR (sI (nO H1 q 27) 122 q hv) 123 q (some k)) 124 q (some v)) 125 q none) (fun H2 hH2 => ?_)
        have hK2 : Ks (fun _ => False) H1 H2 := by
          rw [hH2]
          exact ((((Ks.rf.nO hq).sI (fun h => absurd hq h)).sR (fun h => absurd hq h)).sR (fun h => absurd hq h)).sR (fun h => absurd hq h)
        have at2 : ∀ a, kd H1 a ≠ 0 → At H2 a = At H1 a := fun a ha => hK2.at ha (fun h => h)
        have w1 : kd H2 q = 27 := by rw [hH2, kd_sR, kd_sR, kd_sR, kd_sI, kd_nO, if_pos rfl]
        have w2 : gI H2 122 q = hv := by rw [hH2]; exact gI_sIs
        have w3 : gR H2 123 q = some k := by rw [hH2, gR_sRn (by decide), gR_sRn (by decide), gR_sRs]
        have w4 : gR H2 124 q = some v := by rw [hH2, gR_sRn (by decide), gR_sRs]
        have w5 : gR H2 125 q = none := by rw [hH2, gR_sRs]
        have z1 := at2 tb1 (by rw [t2]; decide)
        have z2 := at2 M (by rw [k1]; decide)
        have y1 : kd H2 tb1 = 5100 := by rw [at_kd z1]; exact t2
        have y2 : ln H2 tb1 = 16 := by rw [at_ln z1]; exact t3
        show AW mJ4_putVal G d Qr Qx _ _ H2 59 _ _
        refine r_nast dJ4_putVal_59 (by first | assumption | (simp only [kd_sI, kd_sR, kd_sA, kd_sQ, kd_sL, kd_sD, ln_sI, ln_sR, ln_sA, ln_sQ, ln_sL, ln_sD, gI_sR, gI_sA, gI_sQ, gI_sL, gI_sD, gR_sI, gR_sA, gR_sQ, gR_sL, gR_sD, gA_sI, gA_sR, gA_sQ, gA_sL, gA_sD, gQ_sI, gQ_sR, gQ_sA, gQ_sL, gQ_sD, gL_sI, gL_sR, gL_sA, gL_sQ, gL_sD]; assumption) | simp [kd_sI, kd_sR, kd_sA, kd_sQ, kd_sL, kd_sD, ln_sI, ln_sR, ln_sA, ln_sQ, ln_sL, ln_sD, gI_sR, gI_sA, gI_sQ, gI_sL, gI_sD, gR_sI, gR_sA, gR_sQ, gR_sL, gR_sD, gA_sI, gA_sR, gA_sQ, gA_sL, gA_sD, gQ_sI, gQ_sR, gQ_sA, gQ_sL, gQ_sD, gL_sI, gL_sR, gL_sA, gL_sQ, gL_sD, kd_nO, kd_nA, *]) (by decide) (by first | assumption | exact gI_sIs | exact gR_sRs | with_reducible rfl | (simp only [kd_sI, kd_sR, kd_sA, kd_sQ, kd_sL, kd_sD, ln_sI, ln_sR, ln_sA, ln_sQ, ln_sL, ln_sD, gI_sR, gI_sA, gI_sQ, gI_sL, gI_sD, gR_sI, gR_sA, gR_sQ, gR_sL, gR_sD, gA_sI, gA_sR, gA_sQ, gA_sL, gA_sD, gQ_sI, gQ_sR, gQ_sA, gQ_sL, gQ_sD, gL_sI, gL_sR, gL_sA, gL_sQ, gL_sD]; first | done | assumption | with_reducible rfl) | rfl) (by first | with_reducible rfl | assumption | (simp only [nI_add, pk_mul, nI_1]; with_reducible rfl)) (by first | assumption | omega) (by first | assumption | omega) ?_ ?_
        · intro b hb
          cases hb
          exact w1
        · refine r_goto (tgt := 259) dJ4_putVal_60 (by decide) ?_
          refine fin _ _ _ _ q tb1 rfl rfl ((hK.tr (hK2.mono (fun _ _ f => f.elim))).sQ (fun q9 => ?_)) qk ?_ (fun i hi => qn _ (by rw [(t6 i hi).1]; decide)) ?_ t0 y1 y2 ?_ (fun b hb => ?_) (fun i hi => ?_)
          · rcases t0 with t0 | t0
            · exact Or.inr (Or.inl t0)
            · exact absurd t0 q9
          · show gI H2 102 M = _
            rw [at_gI z2]
            exact s1
          · show gR H2 100 M = _
            rw [at_gR z2]
            exact t1
          · show gI H2 104 M = _
            rw [at_gI z2]
            exact t4
          · rw [gQ_sQs]
            unfold va_up
            by_cases hbB : b = B
            · rw [if_pos hbB, hbB, f9_new (p := fun j => bkt (hs j) == B) (fun x _ hx => by rw [upA_o (by omega)]) hf (by rw [Nat.zero_add, upA_n, hB]; simp), Nat.zero_add, Option.map_some, upA_n]
            · rw [if_neg hbB, at_gQ z1, t5 b hb, f9_ext (p := fun j => bkt (hs j) == b) (fun x _ hx => by rw [upA_o (by omega)]) (Or.inl (by rw [Nat.zero_add, upA_n, hB]; simpa using fun q => hbB q.symm))]
              exact map_cg (fun j hj => (upA_o (by have := find9_in hj; omega)).symm)
          · by_cases hin : i = n
            · rw [hin, upA_n, upA_n, upA_n, upA_n, show n + 1 - (n + 1) = 0 by omega]
              exact ⟨w1, w2, w3, w4, w5⟩
            · have hlt : i < n := by omega
              obtain ⟨u1, u2, u3, u4, u5⟩ := t6 i hlt
              have z3 := at2 (nd i) (by rw [u1]; decide)
              have hbi : ¬ bkt (hs i) = B := by simpa using find9_no hf i (by omega) (by omega)
              rw [upA_o hlt, upA_o hlt, upA_o hlt, upA_o hlt]
              refine ⟨by show kd H2 (nd i) = 27; rw [at_kd z3]; exact u1, by show gI H2 122 (nd i) = _; rw [at_gI z3]; exact u2, by show gR H2 123 (nd i) = _; rw [at_gR z3]; exact u3, by show gR H2 124 (nd i) = _; rw [at_gR z3]; exact u4, ?_⟩
              show gR H2 125 (nd i) = _
              rw [at_gR z3, u5, show n + 1 - (i + 1) = n - (i + 1) + 1 by omega, f9_ext (p := fun j => bkt (hs j) == bkt (hs i)) (fun x _ hx => by rw [upA_o (by omega)]) (Or.inl (by rw [show i + 1 + (n - (i + 1)) = n by omega, upA_n, hB]; simpa using fun q => hbi q.symm))]
              exact map_cg (fun j hj => (upA_o (by have := find9_in hj; omega)).symm)
    | some j0 =>
      obtain ⟨p1, p2, p3, p4⟩ := find9_in hf
      have hb0 : bkt (hs j0) = B := by simpa using p3
      have gB : gQ H1 5100 tb1 B = some (nd j0) := by rw [t5 B hBlt, hf]; rfl
      have loop : ∀ (fu j c : Nat) (y10 y11 : Option AV), n - j ≤ fu → j < n → c ≤ j → bkt (hs j) = B → AW mJ4_putVal G d Qr Qx rc rs H1 134 [some (vR (some M)), some (vI hv), some (vR (some k)), some (vR (some v)), some (vI (nI 0)), some (vI (nI 1)), some (vR (some tb1)), some (vR (some (nd j))), some (vI (nI 16)), some (vI (nI B)), y10, y11, some (vI (nI c))] [] := by
        intro fu
        induction fu with
        | zero => intro j c y10 y11 h1 h2; omega
        | succ fu ih =>
          intro j c y10 y11 hfu hj hc hbj
          obtain ⟨n1, n2, n3, n4, n5⟩ := t6 j hj
          cases hnx : find9 (fun i => bkt (hs i) == bkt (hs j)) (j + 1) (n - (j + 1)) with
          | some j2 =>
            rw [hnx] at n5
            have n5' : gR H1 125 (nd j) = some (nd j2) := n5
            obtain ⟨r1, r2, r3, r4⟩ := find9_in hnx
            have r3' : bkt (hs j2) = bkt (hs j) := by simpa using r3
            obtain ⟨m1, m2, m3, m4, m5⟩ := t6 j2 (by omega)
            refine r_aload dJ4_putVal_134 rfl ?_
            refine r_getR dJ4_putVal_136 fR_J4_177 (by first | assumption | (simp only [kd_sI, kd_sR, kd_sA, kd_sQ, kd_sL, kd_sD, ln_sI, ln_sR, ln_sA, ln_sQ, ln_sL, ln_sD, gI_sR, gI_sA, gI_sQ, gI_sL, gI_sD, gR_sI, gR_sA, gR_sQ, gR_sL, gR_sD, gA_sI, gA_sR, gA_sQ, gA_sL, gA_sD, gQ_sI, gQ_sR, gQ_sA, gQ_sL, gQ_sD, gL_sI, gL_sR, gL_sA, gL_sQ, gL_sD]; assumption) | simp [kd_sI, kd_sR, kd_sA, kd_sQ, kd_sL, kd_sD, ln_sI, ln_sR, ln_sA, ln_sQ, ln_sL, ln_sD, gI_sR, gI_sA, gI_sQ, gI_sL, gI_sD, gR_sI, gR_sA, gR_sQ, gR_sL, gR_sD, gA_sI, gA_sR, gA_sQ, gA_sL, gA_sD, gQ_sI, gQ_sR, gQ_sA, gQ_sL, gQ_sD, gL_sI, gL_sR, gL_sA, gL_sQ, gL_sD, kd_nO, kd_nA, *]) (by first | assumption | exact gI_sIs | exact gR_sRs | with_reducible rfl | (simp only [kd_sI, kd_sR, kd_sA, kd_sQ, kd_sL, kd_sD, ln_sI, ln_sR, ln_sA, ln_sQ, ln_sL, ln_sD, gI_sR, gI_sA, gI_sQ, gI_sL, gI_sD, gR_sI, gR_sA, gR_sQ, gR_sL, gR_sD, gA_sI, gA_sR, gA_sQ, gA_sL, gA_sD, gQ_sI, gQ_sR, gQ_sA, gQ_sL, gQ_sD, gL_sI, gL_sR, gL_sA, gL_sQ, gL_sD]; first | done | assumption | with_reducible rfl) | rfl) ?_
            refine r_dup dJ4_putVal_139 rfl ?_
            refine r_astore dJ4_putVal_140 (Nat.le_of_ble_eq_true rfl) (by simp only [lset]; rfl) ?_
            refine r_ifnonnull (tgt := 175) dJ4_putVal_142 (by decide) (fun a142 h142 => ?_) (fun h142 => ?_)
            · cases h142
              have step : ∀ y11, AW mJ4_putVal G d Qr Qx rc rs H1 212 [some (vR (some M)), some (vI hv), some (vR (some k)), some (vR (some v)), some (vI (nI 0)), some (vI (nI 1)), some (vR (some tb1)), some (vR (some (nd j))), some (vI (nI 16)), some (vI (nI B)), some (vR (some (nd j2))), y11, some (vI (nI c))] [] := by
                intro y11
                refine r_aload dJ4_putVal_212 rfl ?_
                refine r_astore dJ4_putVal_214 (Nat.le_of_ble_eq_true rfl) (by simp only [lset]; rfl) ?_
                refine r_iinc dJ4_putVal_216 rfl (by first | exact nI_1 _ | rfl) (by simp only [lset]; rfl) ?_
                refine r_goto (tgt := 134) dJ4_putVal_219 (by decide) ?_
                exact ih j2 (c + 1) _ _ (by omega) (by omega) (by omega) (r3'.trans hbj)
              refine r_aload dJ4_putVal_175 rfl ?_
              refine r_getI dJ4_putVal_177 fR_J4_168 (by first | assumption | (simp only [kd_sI, kd_sR, kd_sA, kd_sQ, kd_sL, kd_sD, ln_sI, ln_sR, ln_sA, ln_sQ, ln_sL, ln_sD, gI_sR, gI_sA, gI_sQ, gI_sL, gI_sD, gR_sI, gR_sA, gR_sQ, gR_sL, gR_sD, gA_sI, gA_sR, gA_sQ, gA_sL, gA_sD, gQ_sI, gQ_sR, gQ_sA, gQ_sL, gQ_sD, gL_sI, gL_sR, gL_sA, gL_sQ, gL_sD]; assumption) | simp [kd_sI, kd_sR, kd_sA, kd_sQ, kd_sL, kd_sD, ln_sI, ln_sR, ln_sA, ln_sQ, ln_sL, ln_sD, gI_sR, gI_sA, gI_sQ, gI_sL, gI_sD, gR_sI, gR_sA, gR_sQ, gR_sL, gR_sD, gA_sI, gA_sR, gA_sQ, gA_sL, gA_sD, gQ_sI, gQ_sR, gQ_sA, gQ_sL, gQ_sD, gL_sI, gL_sR, gL_sA, gL_sQ, gL_sD, kd_nO, kd_nA, *]) (by first | assumption | exact gI_sIs | exact gR_sRs | with_reducible rfl | (simp only [kd_sI, kd_sR, kd_sA, kd_sQ, kd_sL, kd_sD, ln_sI, ln_sR, ln_sA, ln_sQ, ln_sL, ln_sD, gI_sR, gI_sA, gI_sQ, gI_sL, gI_sD, gR_sI, gR_sA, gR_sQ, gR_sL, gR_sD, gA_sI, gA_sR, gA_sQ, gA_sL, gA_sD, gQ_sI, gQ_sR, gQ_sA, gQ_sL, gQ_sD, gL_sI, gL_sR, gL_sA, gL_sQ, gL_sD]; first | done | assumption | with_reducible rfl) | rfl) ?_
              refine r_iload_n (i := 1) dJ4_putVal_180 rfl rfl ?_
              refine r_icmp_ne (tgt := 212) dJ4_putVal_181 (by decide) (fun h181 => ?_) (fun h181 => ?_)
              · exact step _
              · refine r_aload dJ4_putVal_184 rfl ?_
                refine r_getR dJ4_putVal_186 fR_J4_170 (by first | assumption | (simp only [kd_sI, kd_sR, kd_sA, kd_sQ, kd_sL, kd_sD, ln_sI, ln_sR, ln_sA, ln_sQ, ln_sL, ln_sD, gI_sR, gI_sA, gI_sQ, gI_sL, gI_sD, gR_sI, gR_sA, gR_sQ, gR_sL, gR_sD, gA_sI, gA_sR, gA_sQ, gA_sL, gA_sD, gQ_sI, gQ_sR, gQ_sA, gQ_sL, gQ_sD, gL_sI, gL_sR, gL_sA, gL_sQ, gL_sD]; assumption) | simp [kd_sI, kd_sR, kd_sA, kd_sQ, kd_sL, kd_sD, ln_sI, ln_sR, ln_sA, ln_sQ, ln_sL, ln_sD, gI_sR, gI_sA, gI_sQ, gI_sL, gI_sD, gR_sI, gR_sA, gR_sQ, gR_sL, gR_sD, gA_sI, gA_sR, gA_sQ, gA_sL, gA_sD, gQ_sI, gQ_sR, gQ_sA, gQ_sL, gQ_sD, gL_sI, gL_sR, gL_sA, gL_sQ, gL_sD, kd_nO, kd_nA, *]) (by first | assumption | exact gI_sIs | exact gR_sRs | with_reducible rfl | (simp only [kd_sI, kd_sR, kd_sA, kd_sQ, kd_sL, kd_sD, ln_sI, ln_sR, ln_sA, ln_sQ, ln_sL, ln_sD, gI_sR, gI_sA, gI_sQ, gI_sL, gI_sD, gR_sI, gR_sA, gR_sQ, gR_sL, gR_sD, gA_sI, gA_sR, gA_sQ, gA_sL, gA_sD, gQ_sI, gQ_sR, gQ_sA, gQ_sL, gQ_sD, gL_sI, gL_sR, gL_sA, gL_sQ, gL_sD]; first | done | assumption | with_reducible rfl) | rfl) ?_
                refine r_dup dJ4_putVal_189 rfl ?_
                refine r_astore dJ4_putVal_190 (Nat.le_of_ble_eq_true rfl) (by simp only [lset]; rfl) ?_
                refine r_aload_n (i := 2) dJ4_putVal_192 rfl rfl ?_
                refine r_acmp_eq (tgt := 222) dJ4_putVal_193 (by decide) (fun h193 => ?_) (fun h193 => ?_)
                · exact absurd h193 (hnk j2 (by omega))
                · refine r_aload_n (i := 2) dJ4_putVal_196 rfl rfl ?_
                  refine r_ifnull (tgt := 212) dJ4_putVal_197 (by decide) (fun h197 => ?_) (fun a197 h197 => ?_)
                  · cases h197
                  · refine r_aload_n (i := 2) dJ4_putVal_200 rfl rfl ?_
                    refine r_aload dJ4_putVal_201 rfl ?_
                    refine r_callU (As := [_]) (mc' := 0) (ms' := 0) dJ4_putVal_203 k_J4_173_J8 rfl (by first | assumption | (simp only [kd_sI, kd_sR, kd_sA, kd_sQ, kd_sL, kd_sD, ln_sI, ln_sR, ln_sA, ln_sQ, ln_sL, ln_sD, gI_sR, gI_sA, gI_sQ, gI_sL, gI_sD, gR_sI, gR_sA, gR_sQ, gR_sL, gR_sD, gA_sI, gA_sR, gA_sQ, gA_sL, gA_sD, gQ_sI, gQ_sR, gQ_sA, gQ_sL, gQ_sD, gL_sI, gL_sR, gL_sA, gL_sQ, gL_sD]; assumption) | simp [kd_sI, kd_sR, kd_sA, kd_sQ, kd_sL, kd_sD, ln_sI, ln_sR, ln_sA, ln_sQ, ln_sL, ln_sD, gI_sR, gI_sA, gI_sQ, gI_sL, gI_sD, gR_sI, gR_sA, gR_sQ, gR_sL, gR_sD, gA_sI, gA_sR, gA_sQ, gA_sL, gA_sD, gQ_sI, gQ_sR, gQ_sA, gQ_sL, gQ_sD, gL_sI, gL_sR, gL_sA, gL_sQ, gL_sD, kd_nO, kd_nA, *]) (T := TJ8) (N := 4) rfl (by first | assumption | omega) (by first | assumption | omega) (by first | assumption | omega) (Nat.le_of_ble_eq_true rfl) ?_
                    refine s_strEquals (b := mtk m cs mk ck j2) (by omega) hk1 (hks1 j2 (by omega)) rfl ?_
                    rw [hnew j2 (by omega)]
                    show AW mJ4_putVal G d Qr Qx _ _ H1 206 _ _
                    refine r_if_eq (tgt := 212) dJ4_putVal_206 (by decide) (fun h206 => ?_) (fun h206 => ?_)
                    · exact step _
                    · exact absurd rfl h206
            · cases h142
          | none =>
            rw [hnx] at n5
            have n5' : gR H1 125 (nd j) = none := n5
            refine r_aload dJ4_putVal_134 rfl ?_
            refine r_getR dJ4_putVal_136 fR_J4_177 (by first | assumption | (simp only [kd_sI, kd_sR, kd_sA, kd_sQ, kd_sL, kd_sD, ln_sI, ln_sR, ln_sA, ln_sQ, ln_sL, ln_sD, gI_sR, gI_sA, gI_sQ, gI_sL, gI_sD, gR_sI, gR_sA, gR_sQ, gR_sL, gR_sD, gA_sI, gA_sR, gA_sQ, gA_sL, gA_sD, gQ_sI, gQ_sR, gQ_sA, gQ_sL, gQ_sD, gL_sI, gL_sR, gL_sA, gL_sQ, gL_sD]; assumption) | simp [kd_sI, kd_sR, kd_sA, kd_sQ, kd_sL, kd_sD, ln_sI, ln_sR, ln_sA, ln_sQ, ln_sL, ln_sD, gI_sR, gI_sA, gI_sQ, gI_sL, gI_sD, gR_sI, gR_sA, gR_sQ, gR_sL, gR_sD, gA_sI, gA_sR, gA_sQ, gA_sL, gA_sD, gQ_sI, gQ_sR, gQ_sA, gQ_sL, gQ_sD, gL_sI, gL_sR, gL_sA, gL_sQ, gL_sD, kd_nO, kd_nA, *]) (by first | assumption | exact gI_sIs | exact gR_sRs | with_reducible rfl | (simp only [kd_sI, kd_sR, kd_sA, kd_sQ, kd_sL, kd_sD, ln_sI, ln_sR, ln_sA, ln_sQ, ln_sL, ln_sD, gI_sR, gI_sA, gI_sQ, gI_sL, gI_sD, gR_sI, gR_sA, gR_sQ, gR_sL, gR_sD, gA_sI, gA_sR, gA_sQ, gA_sL, gA_sD, gQ_sI, gQ_sR, gQ_sA, gQ_sL, gQ_sD, gL_sI, gL_sR, gL_sA, gL_sQ, gL_sD]; first | done | assumption | with_reducible rfl) | rfl) ?_
            refine r_dup dJ4_putVal_139 rfl ?_
            refine r_astore dJ4_putVal_140 (Nat.le_of_ble_eq_true rfl) (by simp only [lset]; rfl) ?_
            refine r_ifnonnull (tgt := 175) dJ4_putVal_142 (by decide) (fun a142 h142 => ?_) (fun h142 => ?_)
            · cases h142
            · refine r_aload dJ4_putVal_145 rfl ?_
              refine r_aload_n (i := 0) dJ4_putVal_147 rfl rfl ?_
              refine r_iload_n (i := 1) dJ4_putVal_148 rfl rfl ?_
              refine r_aload_n (i := 2) dJ4_putVal_149 rfl rfl ?_
              refine r_aload_n (i := 3) dJ4_putVal_150 rfl rfl ?_
              refine r_null dJ4_putVal_151 ?_
              refine r_callV (As := [_, _, _, _]) (mc' := 1) (ms' := 4) dJ4_putVal_152 k_J4_186 rfl (by first | assumption | (simp only [kd_sI, kd_sR, kd_sA, kd_sQ, kd_sL, kd_sD, ln_sI, ln_sR, ln_sA, ln_sQ, ln_sL, ln_sD, gI_sR, gI_sA, gI_sQ, gI_sL, gI_sD, gR_sI, gR_sA, gR_sQ, gR_sL, gR_sD, gA_sI, gA_sR, gA_sQ, gA_sL, gA_sD, gQ_sI, gQ_sR, gQ_sA, gQ_sL, gQ_sD, gL_sI, gL_sR, gL_sA, gL_sQ, gL_sD]; assumption) | simp [kd_sI, kd_sR, kd_sA, kd_sQ, kd_sL, kd_sD, ln_sI, ln_sR, ln_sA, ln_sQ, ln_sL, ln_sD, gI_sR, gI_sA, gI_sQ, gI_sL, gI_sD, gR_sI, gR_sA, gR_sQ, gR_sL, gR_sD, gA_sI, gA_sR, gA_sQ, gA_sL, gA_sD, gQ_sI, gQ_sR, gQ_sA, gQ_sL, gQ_sD, gL_sI, gL_sR, gL_sA, gL_sQ, gL_sD, kd_nO, kd_nA, *]) (T := TJ4) (N := 8) rfl (by first | assumption | omega) (by first | assumption | omega) (by first | assumption | omega) (Nat.le_of_ble_eq_true rfl) ?_
              refine s_newNode (by omega) (fun q hq => ?_)
              have qk : kd H q = 0 := hK.fr hq
              have qn : ∀ a, kd H1 a ≠ 0 → a ≠ q := fun a ha e => by rw [e, hq] at ha; exact ha rfl
              refine AW.name (H := sR (sR (sR (sI (nO H1 q 27) 122 q hv) 123 q (some k)) 124 q (some v)) 125 q none) (fun H2 hH2 => ?_)
              have hK2 : Ks (fun _ => False) H1 H2 := by
                rw [hH2]
                exact ((((Ks.rf.nO hq).sI (fun h => absurd hq h)).sR (fun h => absurd hq h)).sR (fun h => absurd hq h)).sR (fun h => absurd hq h)
              have at2 : ∀ a, kd H1 a ≠ 0 → At H2 a = At H1 a := fun a ha => hK2.at ha (fun h => h)
              have w1 : kd H2 q = 27 := by rw [hH2, kd_sR, kd_sR, kd_sR, kd_sI, kd_nO, if_pos rfl]
              have w2 : gI H2 122 q = hv := by rw [hH2]; exact gI_sIs
              have w3 : gR H2 123 q = some k := by rw [hH2, gR_sRn (by decide), gR_sRn (by decide), gR_sRs]
              have w4 : gR H2 124 q = some v := by rw [hH2, gR_sRn (by decide), gR_sRs]
              have w5 : gR H2 125 q = none := by rw [hH2, gR_sRs]
              have z1 := at2 tb1 (by rw [t2]; decide)
              have z2 := at2 M (by rw [k1]; decide)
              have z4 := at2 (nd j) (by rw [n1]; decide)
              have y1 : kd H2 tb1 = 5100 := by rw [at_kd z1]; exact t2
              have y2 : ln H2 tb1 = 16 := by rw [at_ln z1]; exact t3
              have y4 : kd H2 (nd j) = 27 := by rw [at_kd z4]; exact n1
              have qj : nd j ≠ q := qn _ (by rw [n1]; decide)
              show AW mJ4_putVal G d Qr Qx _ _ H2 155 _ _
              refine r_putR dJ4_putVal_155 fG_J4_177 (fun _ => by first | rfl | contradiction) (by first | assumption | (simp only [kd_sI, kd_sR, kd_sA, kd_sQ, kd_sL, kd_sD, ln_sI, ln_sR, ln_sA, ln_sQ, ln_sL, ln_sD, gI_sR, gI_sA, gI_sQ, gI_sL, gI_sD, gR_sI, gR_sA, gR_sQ, gR_sL, gR_sD, gA_sI, gA_sR, gA_sQ, gA_sL, gA_sD, gQ_sI, gQ_sR, gQ_sA, gQ_sL, gQ_sD, gL_sI, gL_sR, gL_sA, gL_sQ, gL_sD]; assumption) | simp [kd_sI, kd_sR, kd_sA, kd_sQ, kd_sL, kd_sD, ln_sI, ln_sR, ln_sA, ln_sQ, ln_sL, ln_sD, gI_sR, gI_sA, gI_sQ, gI_sL, gI_sD, gR_sI, gR_sA, gR_sQ, gR_sL, gR_sD, gA_sI, gA_sR, gA_sQ, gA_sL, gA_sD, gQ_sI, gQ_sR, gQ_sA, gQ_sL, gQ_sD, gL_sI, gL_sR, gL_sA, gL_sQ, gL_sD, kd_nO, kd_nA, *]) (by first | exact Or.inl ⟨_, rfl⟩ | exact Or.inr ⟨_, rfl⟩) ?_
              refine r_iload dJ4_putVal_158 rfl ?_
              refine r_bipush (v := nI 7) dJ4_putVal_160 (by decide) ?_
              refine r_icmp_lt (tgt := 222) dJ4_putVal_162 (by decide) (fun h162 => ?_) (fun h162 => ?_)
              · refine r_aload dJ4_putVal_222 rfl ?_
                refine r_ifnull (tgt := 259) dJ4_putVal_224 (by decide) (fun h224 => ?_) (fun a224 h224 => ?_)
                · refine fin _ _ _ _ q tb1 rfl rfl ((hK.tr (hK2.mono (fun _ _ f => f.elim))).sR (fun _ => Or.inr (Or.inr ⟨j, hj, rfl⟩))) qk ?_ (fun i hi => qn _ (by rw [(t6 i hi).1]; decide)) ?_ t0 y1 y2 ?_ (fun b hb => ?_) (fun i hi => ?_)
                  · show gI H2 102 M = _
                    rw [at_gI z2]
                    exact s1
                  · rw [gR_sRn (by decide), at_gR z2]
                    exact t1
                  · show gI H2 104 M = _
                    rw [at_gI z2]
                    exact t4
                  · show gQ H2 5100 tb1 b = _
                    rw [at_gQ z1, t5 b hb]
                    have e9 : find9 (fun j => bkt (upA hs n hv j) == b) 0 (n + 1) = find9 (fun j => bkt (hs j) == b) 0 n := by
                      refine f9_ext (fun x _ hx => by rw [upA_o (by omega)]) ?_
                      by_cases hbB : b = B
                      · rw [hbB]
                        exact Or.inr ⟨j0, hf⟩
                      · exact Or.inl (by rw [Nat.zero_add, upA_n, hB]; simpa using fun q => hbB q.symm)
                    rw [e9]
                    exact map_cg (fun j hj => (upA_o (by have := find9_in hj; omega)).symm)
                  · by_cases hin : i = n
                    · rw [hin, upA_n, upA_n, upA_n, upA_n, show n + 1 - (n + 1) = 0 by omega]
                      refine ⟨w1, w2, ?_, ?_, ?_⟩
                      · rw [gR_sRn (by decide)]; exact w3
                      · rw [gR_sRn (by decide)]; exact w4
                      · rw [gR_sR, if_neg (fun e => qj e.2.symm)]; exact w5
                    · have hlt : i < n := by omega
                      obtain ⟨u1, u2, u3, u4, u5⟩ := t6 i hlt
                      have z3 := at2 (nd i) (by rw [u1]; decide)
                      rw [upA_o hlt, upA_o hlt, upA_o hlt, upA_o hlt]
                      refine ⟨by show kd H2 (nd i) = 27; rw [at_kd z3]; exact u1, by show gI H2 122 (nd i) = _; rw [at_gI z3]; exact u2, by rw [gR_sRn (by decide), at_gR z3]; exact u3, by rw [gR_sRn (by decide), at_gR z3]; exact u4, ?_⟩
                      rw [show n + 1 - (i + 1) = n - (i + 1) + 1 by omega]
                      by_cases hij : i = j
                      · subst hij
                        rw [gR_sRs, f9_new (p := fun x => bkt (hs x) == bkt (hs i)) (fun x _ hx => by rw [upA_o (by omega)]) hnx (by rw [show i + 1 + (n - (i + 1)) = n by omega, upA_n, hB, hbj]; simp), show i + 1 + (n - (i + 1)) = n by omega, Option.map_some, upA_n]
                      · have hne : nd i ≠ nd j := fun e => hij (a6 i j hlt hj e)
                        rw [gR_sR, if_neg (fun e => hne e.2), at_gR z3, u5]
                        have e9 : find9 (fun x => bkt (upA hs n hv x) == bkt (hs i)) (i + 1) (n - (i + 1) + 1) = find9 (fun x => bkt (hs x) == bkt (hs i)) (i + 1) (n - (i + 1)) := by
                          refine f9_ext (fun x _ hx => by rw [upA_o (by omega)]) ?_
                          by_cases hbi : bkt (hs i) = B
                          · refine Or.inr ?_
                            have hilt : i < j := by
                              rcases Nat.lt_or_ge i j with g | g
                              · exact g
                              · have := find9_no hnx i (by omega) (by omega)
                                rw [hbi, hbj] at this
                                simp at this
                            cases hz : find9 (fun x => bkt (hs x) == bkt (hs i)) (i + 1) (n - (i + 1)) with
                            | some y => exact ⟨y, rfl⟩
                            | none =>
                              have := find9_no hz j (by omega) (by omega)
                              rw [hbi, hbj] at this
                              simp at this
                          · exact Or.inl (by rw [show i + 1 + (n - (i + 1)) = n by omega, upA_n, hB]; simpa using fun q => hbi q.symm)
                        rw [e9]
                        exact map_cg (fun x hx => (upA_o (by have := find9_in hx; omega)).symm)
                · cases h224
              · exact absurd (nI_lt (a := c) (b := 7) (by omega) (by decide)) h162
      obtain ⟨n1, n2, n3, n4, n5⟩ := t6 j0 (by omega)
      have step : ∀ y10 y11 y12, AW mJ4_putVal G d Qr Qx rc rs H1 104 [some (vR (some M)), some (vI hv), some (vR (some k)), some (vR (some v)), some (vI (nI 0)), some (vI (nI 1)), some (vR (some tb1)), some (vR (some (nd j0))), some (vI (nI 16)), some (vI (nI B)), y10, y11, y12] [] := by
        intro y10 y11 y12
        refine r_aload dJ4_putVal_104 rfl ?_
        refine r_instNo dJ4_putVal_106 (by first | assumption | (simp only [kd_sI, kd_sR, kd_sA, kd_sQ, kd_sL, kd_sD, ln_sI, ln_sR, ln_sA, ln_sQ, ln_sL, ln_sD, gI_sR, gI_sA, gI_sQ, gI_sL, gI_sD, gR_sI, gR_sA, gR_sQ, gR_sL, gR_sD, gA_sI, gA_sR, gA_sQ, gA_sL, gA_sD, gQ_sI, gQ_sR, gQ_sA, gQ_sL, gQ_sD, gL_sI, gL_sR, gL_sA, gL_sQ, gL_sD]; assumption) | simp [kd_sI, kd_sR, kd_sA, kd_sQ, kd_sL, kd_sD, ln_sI, ln_sR, ln_sA, ln_sQ, ln_sL, ln_sD, gI_sR, gI_sA, gI_sQ, gI_sL, gI_sD, gR_sI, gR_sA, gR_sQ, gR_sL, gR_sD, gA_sI, gA_sR, gA_sQ, gA_sL, gA_sD, gQ_sI, gQ_sR, gQ_sA, gQ_sL, gQ_sD, gL_sI, gL_sR, gL_sA, gL_sQ, gL_sD, kd_nO, kd_nA, *]) (T := TJ24) (N := 4) rfl q793 (List.mem_of_getElem? (i := 532) rfl) ?_
        refine r_if_eq (tgt := 131) dJ4_putVal_109 (by decide) (fun h109 => ?_) (fun h109 => ?_)
        · refine r_iconst (v := nI 0) dJ4_putVal_131 (by decide) ?_
          refine r_istore dJ4_putVal_132 (Nat.le_of_ble_eq_true rfl) (by simp only [lset]; rfl) ?_
          exact loop (n - j0) j0 0 _ _ (Nat.le_refl _) (by omega) (by omega) hb0
        · exact absurd rfl h109
      refine r_nald dJ4_putVal_40 (by first | assumption | (simp only [kd_sI, kd_sR, kd_sA, kd_sQ, kd_sL, kd_sD, ln_sI, ln_sR, ln_sA, ln_sQ, ln_sL, ln_sD, gI_sR, gI_sA, gI_sQ, gI_sL, gI_sD, gR_sI, gR_sA, gR_sQ, gR_sL, gR_sD, gA_sI, gA_sR, gA_sQ, gA_sL, gA_sD, gQ_sI, gQ_sR, gQ_sA, gQ_sL, gQ_sD, gL_sI, gL_sR, gL_sA, gL_sQ, gL_sD]; assumption) | simp [kd_sI, kd_sR, kd_sA, kd_sQ, kd_sL, kd_sD, ln_sI, ln_sR, ln_sA, ln_sQ, ln_sL, ln_sD, gI_sR, gI_sA, gI_sQ, gI_sL, gI_sD, gR_sI, gR_sA, gR_sQ, gR_sL, gR_sD, gA_sI, gA_sR, gA_sQ, gA_sL, gA_sD, gQ_sI, gQ_sR, gQ_sA, gQ_sL, gQ_sD, gL_sI, gL_sR, gL_sA, gL_sQ, gL_sD, kd_nO, kd_nA, *]) (by first | decide | assumption) (by first | assumption | exact gI_sIs | exact gR_sRs | with_reducible rfl | (simp only [kd_sI, kd_sR, kd_sA, kd_sQ, kd_sL, kd_sD, ln_sI, ln_sR, ln_sA, ln_sQ, ln_sL, ln_sD, gI_sR, gI_sA, gI_sQ, gI_sL, gI_sD, gR_sI, gR_sA, gR_sQ, gR_sL, gR_sD, gA_sI, gA_sR, gA_sQ, gA_sL, gA_sD, gQ_sI, gQ_sR, gQ_sA, gQ_sL, gQ_sD, gL_sI, gL_sR, gL_sA, gL_sQ, gL_sD]; first | done | assumption | with_reducible rfl) | rfl) (by first | with_reducible rfl | assumption | (simp only [nI_add, pk_mul, nI_1]; with_reducible rfl)) (by first | assumption | omega) (by first | assumption | omega) (by first | assumption | exact gI_sIs | exact gR_sRs | with_reducible rfl | (simp only [kd_sI, kd_sR, kd_sA, kd_sQ, kd_sL, kd_sD, ln_sI, ln_sR, ln_sA, ln_sQ, ln_sL, ln_sD, gI_sR, gI_sA, gI_sQ, gI_sL, gI_sD, gR_sI, gR_sA, gR_sQ, gR_sL, gR_sD, gA_sI, gA_sR, gA_sQ, gA_sL, gA_sD, gQ_sI, gQ_sR, gQ_sA, gQ_sL, gQ_sD, gL_sI, gL_sR, gL_sA, gL_sQ, gL_sD]; first | done | assumption | with_reducible rfl) | rfl) ?_
      refine r_dup dJ4_putVal_41 rfl ?_
      refine r_astore dJ4_putVal_42 (Nat.le_of_ble_eq_true rfl) (by simp only [lset]; rfl) ?_
      refine r_ifnonnull (tgt := 63) dJ4_putVal_44 (by decide) (fun a44 h44 => ?_) (fun h44 => ?_)
      · cases h44
        refine r_aload dJ4_putVal_63 rfl ?_
        refine r_getI dJ4_putVal_65 fR_J4_168 (by first | assumption | (simp only [kd_sI, kd_sR, kd_sA, kd_sQ, kd_sL, kd_sD, ln_sI, ln_sR, ln_sA, ln_sQ, ln_sL, ln_sD, gI_sR, gI_sA, gI_sQ, gI_sL, gI_sD, gR_sI, gR_sA, gR_sQ, gR_sL, gR_sD, gA_sI, gA_sR, gA_sQ, gA_sL, gA_sD, gQ_sI, gQ_sR, gQ_sA, gQ_sL, gQ_sD, gL_sI, gL_sR, gL_sA, gL_sQ, gL_sD]; assumption) | simp [kd_sI, kd_sR, kd_sA, kd_sQ, kd_sL, kd_sD, ln_sI, ln_sR, ln_sA, ln_sQ, ln_sL, ln_sD, gI_sR, gI_sA, gI_sQ, gI_sL, gI_sD, gR_sI, gR_sA, gR_sQ, gR_sL, gR_sD, gA_sI, gA_sR, gA_sQ, gA_sL, gA_sD, gQ_sI, gQ_sR, gQ_sA, gQ_sL, gQ_sD, gL_sI, gL_sR, gL_sA, gL_sQ, gL_sD, kd_nO, kd_nA, *]) (by first | assumption | exact gI_sIs | exact gR_sRs | with_reducible rfl | (simp only [kd_sI, kd_sR, kd_sA, kd_sQ, kd_sL, kd_sD, ln_sI, ln_sR, ln_sA, ln_sQ, ln_sL, ln_sD, gI_sR, gI_sA, gI_sQ, gI_sL, gI_sD, gR_sI, gR_sA, gR_sQ, gR_sL, gR_sD, gA_sI, gA_sR, gA_sQ, gA_sL, gA_sD, gQ_sI, gQ_sR, gQ_sA, gQ_sL, gQ_sD, gL_sI, gL_sR, gL_sA, gL_sQ, gL_sD]; first | done | assumption | with_reducible rfl) | rfl) ?_
        refine r_iload_n (i := 1) dJ4_putVal_68 rfl rfl ?_
        refine r_icmp_ne (tgt := 104) dJ4_putVal_69 (by decide) (fun h69 => ?_) (fun h69 => ?_)
        · exact step _ _ _
        · refine r_aload dJ4_putVal_72 rfl ?_
          refine r_getR dJ4_putVal_74 fR_J4_170 (by first | assumption | (simp only [kd_sI, kd_sR, kd_sA, kd_sQ, kd_sL, kd_sD, ln_sI, ln_sR, ln_sA, ln_sQ, ln_sL, ln_sD, gI_sR, gI_sA, gI_sQ, gI_sL, gI_sD, gR_sI, gR_sA, gR_sQ, gR_sL, gR_sD, gA_sI, gA_sR, gA_sQ, gA_sL, gA_sD, gQ_sI, gQ_sR, gQ_sA, gQ_sL, gQ_sD, gL_sI, gL_sR, gL_sA, gL_sQ, gL_sD]; assumption) | simp [kd_sI, kd_sR, kd_sA, kd_sQ, kd_sL, kd_sD, ln_sI, ln_sR, ln_sA, ln_sQ, ln_sL, ln_sD, gI_sR, gI_sA, gI_sQ, gI_sL, gI_sD, gR_sI, gR_sA, gR_sQ, gR_sL, gR_sD, gA_sI, gA_sR, gA_sQ, gA_sL, gA_sD, gQ_sI, gQ_sR, gQ_sA, gQ_sL, gQ_sD, gL_sI, gL_sR, gL_sA, gL_sQ, gL_sD, kd_nO, kd_nA, *]) (by first | assumption | exact gI_sIs | exact gR_sRs | with_reducible rfl | (simp only [kd_sI, kd_sR, kd_sA, kd_sQ, kd_sL, kd_sD, ln_sI, ln_sR, ln_sA, ln_sQ, ln_sL, ln_sD, gI_sR, gI_sA, gI_sQ, gI_sL, gI_sD, gR_sI, gR_sA, gR_sQ, gR_sL, gR_sD, gA_sI, gA_sR, gA_sQ, gA_sL, gA_sD, gQ_sI, gQ_sR, gQ_sA, gQ_sL, gQ_sD, gL_sI, gL_sR, gL_sA, gL_sQ, gL_sD]; first | done | assumption | with_reducible rfl) | rfl) ?_
          refine r_dup dJ4_putVal_77 rfl ?_
          refine r_astore dJ4_putVal_78 (Nat.le_of_ble_eq_true rfl) (by simp only [lset]; rfl) ?_
          refine r_aload_n (i := 2) dJ4_putVal_80 rfl rfl ?_
          refine r_acmp_eq (tgt := 97) dJ4_putVal_81 (by decide) (fun h81 => ?_) (fun h81 => ?_)
          · exact absurd h81 (hnk j0 (by omega))
          · refine r_aload_n (i := 2) dJ4_putVal_84 rfl rfl ?_
            refine r_ifnull (tgt := 104) dJ4_putVal_85 (by decide) (fun h85 => ?_) (fun a85 h85 => ?_)
            · cases h85
            · refine r_aload_n (i := 2) dJ4_putVal_88 rfl rfl ?_
              refine r_aload dJ4_putVal_89 rfl ?_
              refine r_callU (As := [_]) (mc' := 0) (ms' := 0) dJ4_putVal_91 k_J4_173_J8 rfl (by first | assumption | (simp only [kd_sI, kd_sR, kd_sA, kd_sQ, kd_sL, kd_sD, ln_sI, ln_sR, ln_sA, ln_sQ, ln_sL, ln_sD, gI_sR, gI_sA, gI_sQ, gI_sL, gI_sD, gR_sI, gR_sA, gR_sQ, gR_sL, gR_sD, gA_sI, gA_sR, gA_sQ, gA_sL, gA_sD, gQ_sI, gQ_sR, gQ_sA, gQ_sL, gQ_sD, gL_sI, gL_sR, gL_sA, gL_sQ, gL_sD]; assumption) | simp [kd_sI, kd_sR, kd_sA, kd_sQ, kd_sL, kd_sD, ln_sI, ln_sR, ln_sA, ln_sQ, ln_sL, ln_sD, gI_sR, gI_sA, gI_sQ, gI_sL, gI_sD, gR_sI, gR_sA, gR_sQ, gR_sL, gR_sD, gA_sI, gA_sR, gA_sQ, gA_sL, gA_sD, gQ_sI, gQ_sR, gQ_sA, gQ_sL, gQ_sD, gL_sI, gL_sR, gL_sA, gL_sQ, gL_sD, kd_nO, kd_nA, *]) (T := TJ8) (N := 4) rfl (by first | assumption | omega) (by first | assumption | omega) (by first | assumption | omega) (Nat.le_of_ble_eq_true rfl) ?_
              refine s_strEquals (b := mtk m cs mk ck j0) (by omega) hk1 (hks1 j0 (by omega)) rfl ?_
              rw [hnew j0 (by omega)]
              show AW mJ4_putVal G d Qr Qx _ _ H1 94 _ _
              refine r_if_eq (tgt := 104) dJ4_putVal_94 (by decide) (fun h94 => ?_) (fun h94 => ?_)
              · exact step _ _ _
              · exact absurd rfl h94
      · cases h44
  rcases a4 with ⟨rfl, b2, b3⟩ | ⟨tb, b1, b2, b3, b4, b5⟩
  · refine r_aload_n (i := 0) dJ4_putVal_0 rfl rfl ?_
    refine r_getR dJ4_putVal_1 fR_J4_105 (by first | assumption | (simp only [kd_sI, kd_sR, kd_sA, kd_sQ, kd_sL, kd_sD, ln_sI, ln_sR, ln_sA, ln_sQ, ln_sL, ln_sD, gI_sR, gI_sA, gI_sQ, gI_sL, gI_sD, gR_sI, gR_sA, gR_sQ, gR_sL, gR_sD, gA_sI, gA_sR, gA_sQ, gA_sL, gA_sD, gQ_sI, gQ_sR, gQ_sA, gQ_sL, gQ_sD, gL_sI, gL_sR, gL_sA, gL_sQ, gL_sD]; assumption) | simp [kd_sI, kd_sR, kd_sA, kd_sQ, kd_sL, kd_sD, ln_sI, ln_sR, ln_sA, ln_sQ, ln_sL, ln_sD, gI_sR, gI_sA, gI_sQ, gI_sL, gI_sD, gR_sI, gR_sA, gR_sQ, gR_sL, gR_sD, gA_sI, gA_sR, gA_sQ, gA_sL, gA_sD, gQ_sI, gQ_sR, gQ_sA, gQ_sL, gQ_sD, gL_sI, gL_sR, gL_sA, gL_sQ, gL_sD, kd_nO, kd_nA, *]) (by first | assumption | exact gI_sIs | exact gR_sRs | with_reducible rfl | (simp only [kd_sI, kd_sR, kd_sA, kd_sQ, kd_sL, kd_sD, ln_sI, ln_sR, ln_sA, ln_sQ, ln_sL, ln_sD, gI_sR, gI_sA, gI_sQ, gI_sL, gI_sD, gR_sI, gR_sA, gR_sQ, gR_sL, gR_sD, gA_sI, gA_sR, gA_sQ, gA_sL, gA_sD, gQ_sI, gQ_sR, gQ_sA, gQ_sL, gQ_sD, gL_sI, gL_sR, gL_sA, gL_sQ, gL_sD]; first | done | assumption | with_reducible rfl) | rfl) ?_
    refine r_dup dJ4_putVal_4 rfl ?_
    refine r_astore dJ4_putVal_5 (Nat.le_of_ble_eq_true rfl) (by simp only [lset]; rfl) ?_
    refine r_ifnull (tgt := 19) dJ4_putVal_7 (by decide) (fun h7 => ?_) (fun a7 h7 => ?_)
    · refine r_aload_n (i := 0) dJ4_putVal_19 rfl rfl ?_
      refine r_callV (As := []) (mc' := 1) (ms' := 16) dJ4_putVal_20 k_J4_117 rfl (by first | assumption | (simp only [kd_sI, kd_sR, kd_sA, kd_sQ, kd_sL, kd_sD, ln_sI, ln_sR, ln_sA, ln_sQ, ln_sL, ln_sD, gI_sR, gI_sA, gI_sQ, gI_sL, gI_sD, gR_sI, gR_sA, gR_sQ, gR_sL, gR_sD, gA_sI, gA_sR, gA_sQ, gA_sL, gA_sD, gQ_sI, gQ_sR, gQ_sA, gQ_sL, gQ_sD, gL_sI, gL_sR, gL_sA, gL_sQ, gL_sD]; assumption) | simp [kd_sI, kd_sR, kd_sA, kd_sQ, kd_sL, kd_sD, ln_sI, ln_sR, ln_sA, ln_sQ, ln_sL, ln_sD, gI_sR, gI_sA, gI_sQ, gI_sL, gI_sD, gR_sI, gR_sA, gR_sQ, gR_sL, gR_sD, gA_sI, gA_sR, gA_sQ, gA_sL, gA_sD, gQ_sI, gQ_sR, gQ_sA, gQ_sL, gQ_sD, gL_sI, gL_sR, gL_sA, gL_sQ, gL_sD, kd_nO, kd_nA, *]) (T := TJ4) (N := 8) rfl (by first | assumption | omega) (by first | assumption | omega) (by first | assumption | omega) (Nat.le_of_ble_eq_true rfl) ?_
      refine s_resize0 a1 b2 b3 (fun q hq => ?_)
      have hMq : ¬ M = q := fun e => by rw [e, hq] at a1; cases a1
      show AW mJ4_putVal G d Qr Qx _ _ _ 23 _ _
      refine AW.name (fun H1 hH1 => ?_)
      have k1 : kd H1 M = 21 := by rw [hH1, kd_sR, kd_nA, if_neg hMq]; exact a1
      have t2 : kd H1 q = 5100 := by rw [hH1, kd_sR, kd_nA, if_pos rfl]
      have t3 : ln H1 q = 16 := by rw [hH1, ln_sR, ln_nA, if_pos rfl]
      refine r_dup dJ4_putVal_23 rfl ?_
      refine r_astore dJ4_putVal_24 (Nat.le_of_ble_eq_true rfl) (by simp only [lset]; rfl) ?_
      refine r_alen dJ4_putVal_26 (by first | (refine ⟨?_, ?_⟩ <;> simp [kd_sI, kd_sR, kd_sA, kd_sQ, kd_sL, kd_sD, ln_sI, ln_sR, ln_sA, ln_sQ, ln_sL, ln_sD, gI_sR, gI_sA, gI_sQ, gI_sL, gI_sD, gR_sI, gR_sA, gR_sQ, gR_sL, gR_sD, gA_sI, gA_sR, gA_sQ, gA_sL, gA_sD, gQ_sI, gQ_sR, gQ_sA, gQ_sL, gQ_sD, gL_sI, gL_sR, gL_sA, gL_sQ, gL_sD, *]; done) | omega) (by first | assumption | exact gI_sIs | exact gR_sRs | with_reducible rfl | (simp only [kd_sI, kd_sR, kd_sA, kd_sQ, kd_sL, kd_sD, ln_sI, ln_sR, ln_sA, ln_sQ, ln_sL, ln_sD, gI_sR, gI_sA, gI_sQ, gI_sL, gI_sD, gR_sI, gR_sA, gR_sQ, gR_sL, gR_sD, gA_sI, gA_sR, gA_sQ, gA_sL, gA_sD, gQ_sI, gQ_sR, gQ_sA, gQ_sL, gQ_sD, gL_sI, gL_sR, gL_sA, gL_sQ, gL_sD]; first | done | assumption | with_reducible rfl) | rfl) ?_
      refine r_istore dJ4_putVal_27 (Nat.le_of_ble_eq_true rfl) (by simp only [lset]; rfl) ?_
      refine main H1 q _ _ none none none none none none (by decide) (by decide) ?_ (Or.inr hq) ?_ ?_ t2 t3 ?_ (fun b hb => ?_) (fun i hi => absurd hi (by omega))
      · rw [hH1]
        exact ((Ks.rf.sI (fun _ => Or.inl rfl)).nA hq).sR (fun _ => Or.inl rfl)
      · rw [hH1]
        show gI (sI H 104 M (nI 12)) 102 M = _
        rw [gI_sIn (by decide)]
        exact a2
      · rw [hH1]
        exact gR_sRs
      · rw [hH1]
        exact gI_sIs
      · rw [hH1, gQ_sR, gQ_nA, if_pos ⟨rfl, rfl⟩]
        rfl
    · cases h7
  · refine r_aload_n (i := 0) dJ4_putVal_0 rfl rfl ?_
    refine r_getR dJ4_putVal_1 fR_J4_105 (by first | assumption | (simp only [kd_sI, kd_sR, kd_sA, kd_sQ, kd_sL, kd_sD, ln_sI, ln_sR, ln_sA, ln_sQ, ln_sL, ln_sD, gI_sR, gI_sA, gI_sQ, gI_sL, gI_sD, gR_sI, gR_sA, gR_sQ, gR_sL, gR_sD, gA_sI, gA_sR, gA_sQ, gA_sL, gA_sD, gQ_sI, gQ_sR, gQ_sA, gQ_sL, gQ_sD, gL_sI, gL_sR, gL_sA, gL_sQ, gL_sD]; assumption) | simp [kd_sI, kd_sR, kd_sA, kd_sQ, kd_sL, kd_sD, ln_sI, ln_sR, ln_sA, ln_sQ, ln_sL, ln_sD, gI_sR, gI_sA, gI_sQ, gI_sL, gI_sD, gR_sI, gR_sA, gR_sQ, gR_sL, gR_sD, gA_sI, gA_sR, gA_sQ, gA_sL, gA_sD, gQ_sI, gQ_sR, gQ_sA, gQ_sL, gQ_sD, gL_sI, gL_sR, gL_sA, gL_sQ, gL_sD, kd_nO, kd_nA, *]) (by first | assumption | exact gI_sIs | exact gR_sRs | with_reducible rfl | (simp only [kd_sI, kd_sR, kd_sA, kd_sQ, kd_sL, kd_sD, ln_sI, ln_sR, ln_sA, ln_sQ, ln_sL, ln_sD, gI_sR, gI_sA, gI_sQ, gI_sL, gI_sD, gR_sI, gR_sA, gR_sQ, gR_sL, gR_sD, gA_sI, gA_sR, gA_sQ, gA_sL, gA_sD, gQ_sI, gQ_sR, gQ_sA, gQ_sL, gQ_sD, gL_sI, gL_sR, gL_sA, gL_sQ, gL_sD]; first | done | assumption | with_reducible rfl) | rfl) ?_
    refine r_dup dJ4_putVal_4 rfl ?_
    refine r_astore dJ4_putVal_5 (Nat.le_of_ble_eq_true rfl) (by simp only [lset]; rfl) ?_
    refine r_ifnull (tgt := 19) dJ4_putVal_7 (by decide) (fun h7 => ?_) (fun a7 h7 => ?_)
    · cases h7
    · refine r_aload dJ4_putVal_10 rfl ?_
      refine r_alen dJ4_putVal_12 (by first | (refine ⟨?_, ?_⟩ <;> simp [kd_sI, kd_sR, kd_sA, kd_sQ, kd_sL, kd_sD, ln_sI, ln_sR, ln_sA, ln_sQ, ln_sL, ln_sD, gI_sR, gI_sA, gI_sQ, gI_sL, gI_sD, gR_sI, gR_sA, gR_sQ, gR_sL, gR_sD, gA_sI, gA_sR, gA_sQ, gA_sL, gA_sD, gQ_sI, gQ_sR, gQ_sA, gQ_sL, gQ_sD, gL_sI, gL_sR, gL_sA, gL_sQ, gL_sD, *]; done) | omega) (by first | assumption | exact gI_sIs | exact gR_sRs | with_reducible rfl | (simp only [kd_sI, kd_sR, kd_sA, kd_sQ, kd_sL, kd_sD, ln_sI, ln_sR, ln_sA, ln_sQ, ln_sL, ln_sD, gI_sR, gI_sA, gI_sQ, gI_sL, gI_sD, gR_sI, gR_sA, gR_sQ, gR_sL, gR_sD, gA_sI, gA_sR, gA_sQ, gA_sL, gA_sD, gQ_sI, gQ_sR, gQ_sA, gQ_sL, gQ_sD, gL_sI, gL_sR, gL_sA, gL_sQ, gL_sD]; first | done | assumption | with_reducible rfl) | rfl) ?_
      refine r_dup dJ4_putVal_13 rfl ?_
      refine r_istore dJ4_putVal_14 (Nat.le_of_ble_eq_true rfl) (by simp only [lset]; rfl) ?_
      refine r_if_ne (tgt := 29) dJ4_putVal_16 (by decide) (fun h16 => ?_) (fun h16 => ?_)
      · exact main H tb _ _ none none none none none none (by decide) (by decide) Ks.rf (Or.inl b1) a2 b1 b2 b3 b4 b5 a5
      · exact absurd h16 (by decide)
end Map2
