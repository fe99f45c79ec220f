set_option maxRecDepth 100000
/-! THE TRAYS AT A PLACE -/
/-- what is read of a plan on a way -/
def PlV (G : Gl) (H : AH) (p L n e : Nat) (tr tc tf tu : Nat → Nat) (sp : Int32) (g : Nat → Int32) : Prop := (kd H p = 2 ∧ gR H 10 p = some L ∧ gI H 13 p = sp) ∧ LsO G H L n tr e ∧ n ≤ 12 ∧ ∀ t, t < n → TrO H (tr t) (tc t) (tf t) (tu t) (tvOf g t)
/-- only searches and their rows are written -/
def SKd (H : AH) (S : Nat → Prop) : Prop := ∀ a, kd H a ≠ 0 → S a → kd H a = 11 ∨ kd H a = 12 ∨ kd H a = 13 ∨ kd H a = 1047
theorem PlV.ks {G : Gl} {H H' : AH} {S : Nat → Prop} {p L n e : Nat} {tr tc tf tu : Nat → Nat} {sp : Int32} {g : Nat → Int32} (h : PlV G H p L n e tr tc tf tu sp g) (hk : Ks S H H') (hs : SKd H S) : PlV G H' p L n e tr tc tf tu sp g := by
  obtain ⟨⟨a1, a2, a3⟩, a4, a5, a6⟩ := h
  have no : ∀ a, kd H a ≠ 0 → kd H a ≠ 11 → kd H a ≠ 12 → kd H a ≠ 13 → kd H a ≠ 1047 → ¬ S a := fun a h0 h1 h2 h3 h4 q => by
    have := hs a h0 q
    omega
  have e1 := hk.at (a := p) (by rw [a1]; decide) (no p (by rw [a1]; decide) (by rw [a1]; decide) (by rw [a1]; decide) (by rw [a1]; decide) (by rw [a1]; decide))
  refine ⟨⟨by rw [at_kd e1]; exact a1, by rw [at_gR e1]; exact a2, by rw [at_gI e1]; exact a3⟩, a4.ks hk (no L (by rw [a4.1]; decide) (by rw [a4.1]; decide) (by rw [a4.1]; decide) (by rw [a4.1]; decide) (by rw [a4.1]; decide)) (fun k => no e (by rw [k]; decide) (by rw [k]; decide) (by rw [k]; decide) (by rw [k]; decide) (by rw [k]; decide)), a5, fun t ht => ?_⟩
  have hT := a6 t ht
  have hT0 := hT
  obtain ⟨b1, -, -, -, -, -, -, -, b9, b10, b11, -⟩ := hT
  exact hT0.ks hk (no _ (by rw [b1]; decide) (by rw [b1]; decide) (by rw [b1]; decide) (by rw [b1]; decide) (by rw [b1]; decide)) (no _ (by rw [b9]; decide) (by rw [b9]; decide) (by rw [b9]; decide) (by rw [b9]; decide) (by rw [b9]; decide)) (no _ (by rw [b10]; decide) (by rw [b10]; decide) (by rw [b10]; decide) (by rw [b10]; decide) (by rw [b10]; decide)) (no _ (by rw [b11]; decide) (by rw [b11]; decide) (by rw [b11]; decide) (by rw [b11]; decide) (by rw [b11]; decide))
theorem tvOther_ed {g : Nat → Int32} {t pl : Nat} (hT : GT g) (ht : t < nat g 40) (hp : pl < 8) : tvOther (tvOf g t) (nI pl) = (match ed g t pl with | some o => nI o | none => -1) := by
  obtain ⟨⟨a1, a2⟩, ⟨b1, b2⟩, -⟩ := hT t ht
  unfold tvOther tvOf ed
  dsimp only
  rw [a1, b1]
  by_cases h1 : nat g (41 + 5 * t) = pl
  · rw [if_pos h1, if_pos (by rw [h1])]
  · rw [if_neg h1, if_neg (fun q => h1 ((nI_eq8 a2 hp).mp q.symm))]
    by_cases h2 : nat g (42 + 5 * t) = pl
    · rw [if_pos h2, if_pos (by rw [h2])]
    · rw [if_neg h2, if_neg (fun q => h2 ((nI_eq8 b2 hp).mp q.symm))]
theorem nI8_m1 : ∀ o, o < 8 → ¬ nI o = -1 := by decide
theorem ed_lt {g : Nat → Int32} {t pl o : Nat} (hT : GT g) (ht : t < nat g 40) (h : ed g t pl = some o) : o < 8 := by
  obtain ⟨⟨a1, a2⟩, ⟨b1, b2⟩, -⟩ := hT t ht
  unfold ed at h
  split at h
  · cases h; exact b2
  · split at h
    · cases h; exact a2
    · cases h
/-- the next tray at a place -/
def nxF (g : Nat → Int32) (pl : Nat) : Nat → Nat → Nat
  | t, 0 => t
  | t, k + 1 => if (ed g t pl).isSome then t else nxF g pl (t + 1) k
theorem nxF_le {g : Nat → Int32} {pl : Nat} : ∀ (k t : Nat), t ≤ nxF g pl t k ∧ nxF g pl t k ≤ t + k ∧ (nxF g pl t k < t + k → (ed g (nxF g pl t k) pl).isSome = true) := by
  intro k
  induction k with
  | zero => intro t; exact ⟨Nat.le_refl _, Nat.le_refl _, fun h => absurd h (Nat.lt_irrefl _)⟩
  | succ k ih =>
    intro t
    unfold nxF
    split
    · rename_i h
      exact ⟨Nat.le_refl _, by omega, fun _ => h⟩
    · obtain ⟨h1, h2, h3⟩ := ih (t + 1)
      exact ⟨by omega, by omega, fun h => h3 (by omega)⟩
theorem scan_nx {g : Nat → Int32} {op : Nat → Bool} {to pl mask : Nat} {row : List Nat} {s : Int32} {rec : Nat → Nat → List Nat → Int32 → Best → Best} : ∀ (k t : Nat) (b : Best), scan (dfsStep rec g op to pl mask row s) t k b = scan (dfsStep rec g op to pl mask row s) (nxF g pl t k) (t + k - nxF g pl t k) b := by
  intro k
  induction k with
  | zero =>
    intro t b
    unfold nxF
    rw [show t + 0 - t = 0 by omega]
  | succ k ih =>
    intro t b
    unfold nxF
    cases he : ed g t pl with
    | some o =>
      rw [if_pos (show (some o).isSome = true from rfl), show t + (k + 1) - t = k + 1 by omega]
    | none =>
      rw [if_neg (by simp)]
      have hs : scan (dfsStep rec g op to pl mask row s) t (k + 1) b = scan (dfsStep rec g op to pl mask row s) (t + 1) k b := by
        show scan _ (t + 1) k (dfsStep rec g op to pl mask row s t b) = _
        have : dfsStep rec g op to pl mask row s t b = b := by
          unfold dfsStep
          rw [he]
        rw [this]
      rw [hs, ih (t + 1) b, show t + 1 + k = t + (k + 1) by omega]
section Iter
variable {G : Gl} {d : Nat} {Qr : Option AV → AH → Prop} {Qx : String → Nat → AH → Prop} {H : AH} {p L n e it q1 pl : Nat} {tr tc tf tu : Nat → Nat} {sp : Int32} {g : Nat → Int32}
/-- a row of trays at a place -/
def It1 (H : AH) (it q1 p pl : Nat) : Prop := (kd H it = 13 ∧ gR H 57 it = some q1) ∧ kd H q1 = 12 ∧ gR H 55 q1 = some p ∧ gI H 54 q1 = nI pl
theorem It1.ks {H' : AH} {S : Nat → Prop} (h : It1 H it q1 p pl) (hk : Ks S H H') (h1 : ¬ S q1) (h2 : gR H' 57 it = gR H 57 it) : It1 H' it q1 p pl := by
  obtain ⟨⟨a1, a2⟩, a3, a4, a5⟩ := h
  have e1 := hk.at (a := q1) (by rw [a3]; decide) h1
  exact ⟨⟨hk.kk a1 (by decide), by rw [h2]; exact a2⟩, by rw [at_kd e1]; exact a3, by rw [at_gR e1]; exact a4, by rw [at_gI e1]; exact a5⟩
theorem c_nextFrom {t : Nat} (hd : 3 ≤ d) (hV : PlV G H p L n e tr tc tf tu sp g) (hT : GT g) (hn : n = nat g 40) (hp : pl < 8) (hI : It1 H it q1 p pl) (ht : t ≤ n) (hQ : Qr (some (vI (nI (nxF g pl t (n - t))))) H) : AMet G d 0 0 yX13_nextFrom wX13_nextFrom H [vR (some it), vI (nI t)] Qr Qx := by
  obtain ⟨⟨a1, a2⟩, a3, a4, a5⟩ := hI
  obtain ⟨⟨p1, p2, p3⟩, l1, l2, l3⟩ := hV
  have kr := l1.1
  refine AMet.of (M := mX13_nextFrom) (maxL := 3) (by first | rfl | decide +kernel) rfl (Nat.le_of_ble_eq_true rfl) ?_
  show AW mX13_nextFrom _ _ _ _ _ _ _ 0 [some (vR (some it)), some (vI (nI t)), none] []
  refine r_iload_n (i := 1) dX13_nextFrom_0 rfl rfl ?_
  refine r_istore_n (i := 2) dX13_nextFrom_1 rfl (Nat.le_of_ble_eq_true rfl) (by simp only [lset]; rfl) ?_
  obtain ⟨N, hN⟩ : ∃ N, nxF g pl t (n - t) = N := ⟨_, rfl⟩
  rw [hN] at hQ
  have loop : ∀ (k i : Nat), i + k = n → nxF g pl i k = N → AW mX13_nextFrom G d Qr Qx 0 0 H 2 [some (vR (some it)), some (vI (nI t)), some (vI (nI i))] [] := by
    intro k
    induction k with
    | zero =>
      intro i hi hx
      refine r_iload_n (i := 2) dX13_nextFrom_2 rfl rfl ?_
      refine r_aload_n (i := 0) dX13_nextFrom_3 rfl rfl ?_
      refine r_getR dX13_nextFrom_4 fR_X13_3 (by first | assumption | (simp only [kd_sI, kd_sR, kd_sA, kd_sQ, kd_sL, kd_sD, ln_sI, ln_sR, ln_sA, ln_sQ, ln_sL, ln_sD, gI_sR, gI_sA, gI_sQ, gI_sL, gI_sD, gR_sI, gR_sA, gR_sQ, gR_sL, gR_sD, gA_sI, gA_sR, gA_sQ, gA_sL, gA_sD, gQ_sI, gQ_sR, gQ_sA, gQ_sL, gQ_sD, gL_sI, gL_sR, gL_sA, gL_sQ, gL_sD]; assumption) | simp [kd_sI, kd_sR, kd_sA, kd_sQ, kd_sL, kd_sD, ln_sI, ln_sR, ln_sA, ln_sQ, ln_sL, ln_sD, gI_sR, gI_sA, gI_sQ, gI_sL, gI_sD, gR_sI, gR_sA, gR_sQ, gR_sL, gR_sD, gA_sI, gA_sR, gA_sQ, gA_sL, gA_sD, gQ_sI, gQ_sR, gQ_sA, gQ_sL, gQ_sD, gL_sI, gL_sR, gL_sA, gL_sQ, gL_sD, kd_nO, kd_nA, *]) (by first | assumption | exact gI_sIs | exact gR_sRs | with_reducible rfl | (simp only [kd_sI, kd_sR, kd_sA, kd_sQ, kd_sL, kd_sD, ln_sI, ln_sR, ln_sA, ln_sQ, ln_sL, ln_sD, gI_sR, gI_sA, gI_sQ, gI_sL, gI_sD, gR_sI, gR_sA, gR_sQ, gR_sL, gR_sD, gA_sI, gA_sR, gA_sQ, gA_sL, gA_sD, gQ_sI, gQ_sR, gQ_sA, gQ_sL, gQ_sD, gL_sI, gL_sR, gL_sA, gL_sQ, gL_sD]; first | done | assumption | with_reducible rfl) | rfl) ?_
      refine r_getR dX13_nextFrom_7 fR_X13_23 (by first | assumption | (simp only [kd_sI, kd_sR, kd_sA, kd_sQ, kd_sL, kd_sD, ln_sI, ln_sR, ln_sA, ln_sQ, ln_sL, ln_sD, gI_sR, gI_sA, gI_sQ, gI_sL, gI_sD, gR_sI, gR_sA, gR_sQ, gR_sL, gR_sD, gA_sI, gA_sR, gA_sQ, gA_sL, gA_sD, gQ_sI, gQ_sR, gQ_sA, gQ_sL, gQ_sD, gL_sI, gL_sR, gL_sA, gL_sQ, gL_sD]; assumption) | simp [kd_sI, kd_sR, kd_sA, kd_sQ, kd_sL, kd_sD, ln_sI, ln_sR, ln_sA, ln_sQ, ln_sL, ln_sD, gI_sR, gI_sA, gI_sQ, gI_sL, gI_sD, gR_sI, gR_sA, gR_sQ, gR_sL, gR_sD, gA_sI, gA_sR, gA_sQ, gA_sL, gA_sD, gQ_sI, gQ_sR, gQ_sA, gQ_sL, gQ_sD, gL_sI, gL_sR, gL_sA, gL_sQ, gL_sD, kd_nO, kd_nA, *]) (by first | assumption | exact gI_sIs | exact gR_sRs | with_reducible rfl | (simp only [kd_sI, kd_sR, kd_sA, kd_sQ, kd_sL, kd_sD, ln_sI, ln_sR, ln_sA, ln_sQ, ln_sL, ln_sD, gI_sR, gI_sA, gI_sQ, gI_sL, gI_sD, gR_sI, gR_sA, gR_sQ, gR_sL, gR_sD, gA_sI, gA_sR, gA_sQ, gA_sL, gA_sD, gQ_sI, gQ_sR, gQ_sA, gQ_sL, gQ_sD, gL_sI, gL_sR, gL_sA, gL_sQ, gL_sD]; first | done | assumption | with_reducible rfl) | rfl) ?_
      refine r_getR dX13_nextFrom_10 fR_X13_29 (by first | assumption | (simp only [kd_sI, kd_sR, kd_sA, kd_sQ, kd_sL, kd_sD, ln_sI, ln_sR, ln_sA, ln_sQ, ln_sL, ln_sD, gI_sR, gI_sA, gI_sQ, gI_sL, gI_sD, gR_sI, gR_sA, gR_sQ, gR_sL, gR_sD, gA_sI, gA_sR, gA_sQ, gA_sL, gA_sD, gQ_sI, gQ_sR, gQ_sA, gQ_sL, gQ_sD, gL_sI, gL_sR, gL_sA, gL_sQ, gL_sD]; assumption) | simp [kd_sI, kd_sR, kd_sA, kd_sQ, kd_sL, kd_sD, ln_sI, ln_sR, ln_sA, ln_sQ, ln_sL, ln_sD, gI_sR, gI_sA, gI_sQ, gI_sL, gI_sD, gR_sI, gR_sA, gR_sQ, gR_sL, gR_sD, gA_sI, gA_sR, gA_sQ, gA_sL, gA_sD, gQ_sI, gQ_sR, gQ_sA, gQ_sL, gQ_sD, gL_sI, gL_sR, gL_sA, gL_sQ, gL_sD, kd_nO, kd_nA, *]) (by first | assumption | exact gI_sIs | exact gR_sRs | with_reducible rfl | (simp only [kd_sI, kd_sR, kd_sA, kd_sQ, kd_sL, kd_sD, ln_sI, ln_sR, ln_sA, ln_sQ, ln_sL, ln_sD, gI_sR, gI_sA, gI_sQ, gI_sL, gI_sD, gR_sI, gR_sA, gR_sQ, gR_sL, gR_sD, gA_sI, gA_sR, gA_sQ, gA_sL, gA_sD, gQ_sI, gQ_sR, gQ_sA, gQ_sL, gQ_sD, gL_sI, gL_sR, gL_sA, gL_sQ, gL_sD]; first | done | assumption | with_reducible rfl) | rfl) ?_
      refine r_callV (As := []) (mc' := 0) (ms' := 0) dX13_nextFrom_13 k_X13_35 rfl (by first | assumption | (simp only [kd_sI, kd_sR, kd_sA, kd_sQ, kd_sL, kd_sD, ln_sI, ln_sR, ln_sA, ln_sQ, ln_sL, ln_sD, gI_sR, gI_sA, gI_sQ, gI_sL, gI_sD, gR_sI, gR_sA, gR_sQ, gR_sL, gR_sD, gA_sI, gA_sR, gA_sQ, gA_sL, gA_sD, gQ_sI, gQ_sR, gQ_sA, gQ_sL, gQ_sD, gL_sI, gL_sR, gL_sA, gL_sQ, gL_sD]; assumption) | simp [kd_sI, kd_sR, kd_sA, kd_sQ, kd_sL, kd_sD, ln_sI, ln_sR, ln_sA, ln_sQ, ln_sL, ln_sD, gI_sR, gI_sA, gI_sQ, gI_sL, gI_sD, gR_sI, gR_sA, gR_sQ, gR_sL, gR_sD, gA_sI, gA_sR, gA_sQ, gA_sL, gA_sD, gQ_sI, gQ_sR, gQ_sA, gQ_sL, gQ_sD, gL_sI, gL_sR, gL_sA, gL_sQ, gL_sD, kd_nO, kd_nA, *]) (T := TJ2) (N := 3) rfl (by first | assumption | omega) (by first | assumption | omega) (by first | assumption | omega) (Nat.le_of_ble_eq_true rfl) ?_
      refine s_size l1.1 l1.2.1 ?_
      show AW mX13_nextFrom G d Qr Qx _ _ H 16 _ _
      refine r_icmp_ge (tgt := 56) dX13_nextFrom_16 (by decide) (fun h16 => ?_) (fun h16 => ?_)
      · refine r_iload_n (i := 2) dX13_nextFrom_56 rfl rfl ?_
        refine r_ireturn dX13_nextFrom_57 rfl (by first | rfl | assumption | exact vp_nar_int _ | exact pk_nc _) ?_
        rw [← hx] at hQ
        exact hQ
      · exact absurd (nI_le (by omega) (by omega)) h16
    | succ k ih =>
      intro i hi hx
      have hTi := l3 i (by omega)
      have kt := hTi.1
      refine r_iload_n (i := 2) dX13_nextFrom_2 rfl rfl ?_
      refine r_aload_n (i := 0) dX13_nextFrom_3 rfl rfl ?_
      refine r_getR dX13_nextFrom_4 fR_X13_3 (by first | assumption | (simp only [kd_sI, kd_sR, kd_sA, kd_sQ, kd_sL, kd_sD, ln_sI, ln_sR, ln_sA, ln_sQ, ln_sL, ln_sD, gI_sR, gI_sA, gI_sQ, gI_sL, gI_sD, gR_sI, gR_sA, gR_sQ, gR_sL, gR_sD, gA_sI, gA_sR, gA_sQ, gA_sL, gA_sD, gQ_sI, gQ_sR, gQ_sA, gQ_sL, gQ_sD, gL_sI, gL_sR, gL_sA, gL_sQ, gL_sD]; assumption) | simp [kd_sI, kd_sR, kd_sA, kd_sQ, kd_sL, kd_sD, ln_sI, ln_sR, ln_sA, ln_sQ, ln_sL, ln_sD, gI_sR, gI_sA, gI_sQ, gI_sL, gI_sD, gR_sI, gR_sA, gR_sQ, gR_sL, gR_sD, gA_sI, gA_sR, gA_sQ, gA_sL, gA_sD, gQ_sI, gQ_sR, gQ_sA, gQ_sL, gQ_sD, gL_sI, gL_sR, gL_sA, gL_sQ, gL_sD, kd_nO, kd_nA, *]) (by first | assumption | exact gI_sIs | exact gR_sRs | with_reducible rfl | (simp only [kd_sI, kd_sR, kd_sA, kd_sQ, kd_sL, kd_sD, ln_sI, ln_sR, ln_sA, ln_sQ, ln_sL, ln_sD, gI_sR, gI_sA, gI_sQ, gI_sL, gI_sD, gR_sI, gR_sA, gR_sQ, gR_sL, gR_sD, gA_sI, gA_sR, gA_sQ, gA_sL, gA_sD, gQ_sI, gQ_sR, gQ_sA, gQ_sL, gQ_sD, gL_sI, gL_sR, gL_sA, gL_sQ, gL_sD]; first | done | assumption | with_reducible rfl) | rfl) ?_
      refine r_getR dX13_nextFrom_7 fR_X13_23 (by first | assumption | (simp only [kd_sI, kd_sR, kd_sA, kd_sQ, kd_sL, kd_sD, ln_sI, ln_sR, ln_sA, ln_sQ, ln_sL, ln_sD, gI_sR, gI_sA, gI_sQ, gI_sL, gI_sD, gR_sI, gR_sA, gR_sQ, gR_sL, gR_sD, gA_sI, gA_sR, gA_sQ, gA_sL, gA_sD, gQ_sI, gQ_sR, gQ_sA, gQ_sL, gQ_sD, gL_sI, gL_sR, gL_sA, gL_sQ, gL_sD]; assumption) | simp [kd_sI, kd_sR, kd_sA, kd_sQ, kd_sL, kd_sD, ln_sI, ln_sR, ln_sA, ln_sQ, ln_sL, ln_sD, gI_sR, gI_sA, gI_sQ, gI_sL, gI_sD, gR_sI, gR_sA, gR_sQ, gR_sL, gR_sD, gA_sI, gA_sR, gA_sQ, gA_sL, gA_sD, gQ_sI, gQ_sR, gQ_sA, gQ_sL, gQ_sD, gL_sI, gL_sR, gL_sA, gL_sQ, gL_sD, kd_nO, kd_nA, *]) (by first | assumption | exact gI_sIs | exact gR_sRs | with_reducible rfl | (simp only [kd_sI, kd_sR, kd_sA, kd_sQ, kd_sL, kd_sD, ln_sI, ln_sR, ln_sA, ln_sQ, ln_sL, ln_sD, gI_sR, gI_sA, gI_sQ, gI_sL, gI_sD, gR_sI, gR_sA, gR_sQ, gR_sL, gR_sD, gA_sI, gA_sR, gA_sQ, gA_sL, gA_sD, gQ_sI, gQ_sR, gQ_sA, gQ_sL, gQ_sD, gL_sI, gL_sR, gL_sA, gL_sQ, gL_sD]; first | done | assumption | with_reducible rfl) | rfl) ?_
      refine r_getR dX13_nextFrom_10 fR_X13_29 (by first | assumption | (simp only [kd_sI, kd_sR, kd_sA, kd_sQ, kd_sL, kd_sD, ln_sI, ln_sR, ln_sA, ln_sQ, ln_sL, ln_sD, gI_sR, gI_sA, gI_sQ, gI_sL, gI_sD, gR_sI, gR_sA, gR_sQ, gR_sL, gR_sD, gA_sI, gA_sR, gA_sQ, gA_sL, gA_sD, gQ_sI, gQ_sR, gQ_sA, gQ_sL, gQ_sD, gL_sI, gL_sR, gL_sA, gL_sQ, gL_sD]; assumption) | simp [kd_sI, kd_sR, kd_sA, kd_sQ, kd_sL, kd_sD, ln_sI, ln_sR, ln_sA, ln_sQ, ln_sL, ln_sD, gI_sR, gI_sA, gI_sQ, gI_sL, gI_sD, gR_sI, gR_sA, gR_sQ, gR_sL, gR_sD, gA_sI, gA_sR, gA_sQ, gA_sL, gA_sD, gQ_sI, gQ_sR, gQ_sA, gQ_sL, gQ_sD, gL_sI, gL_sR, gL_sA, gL_sQ, gL_sD, kd_nO, kd_nA, *]) (by first | assumption | exact gI_sIs | exact gR_sRs | with_reducible rfl | (simp only [kd_sI, kd_sR, kd_sA, kd_sQ, kd_sL, kd_sD, ln_sI, ln_sR, ln_sA, ln_sQ, ln_sL, ln_sD, gI_sR, gI_sA, gI_sQ, gI_sL, gI_sD, gR_sI, gR_sA, gR_sQ, gR_sL, gR_sD, gA_sI, gA_sR, gA_sQ, gA_sL, gA_sD, gQ_sI, gQ_sR, gQ_sA, gQ_sL, gQ_sD, gL_sI, gL_sR, gL_sA, gL_sQ, gL_sD]; first | done | assumption | with_reducible rfl) | rfl) ?_
      refine r_callV (As := []) (mc' := 0) (ms' := 0) dX13_nextFrom_13 k_X13_35 rfl (by first | assumption | (simp only [kd_sI, kd_sR, kd_sA, kd_sQ, kd_sL, kd_sD, ln_sI, ln_sR, ln_sA, ln_sQ, ln_sL, ln_sD, gI_sR, gI_sA, gI_sQ, gI_sL, gI_sD, gR_sI, gR_sA, gR_sQ, gR_sL, gR_sD, gA_sI, gA_sR, gA_sQ, gA_sL, gA_sD, gQ_sI, gQ_sR, gQ_sA, gQ_sL, gQ_sD, gL_sI, gL_sR, gL_sA, gL_sQ, gL_sD]; assumption) | simp [kd_sI, kd_sR, kd_sA, kd_sQ, kd_sL, kd_sD, ln_sI, ln_sR, ln_sA, ln_sQ, ln_sL, ln_sD, gI_sR, gI_sA, gI_sQ, gI_sL, gI_sD, gR_sI, gR_sA, gR_sQ, gR_sL, gR_sD, gA_sI, gA_sR, gA_sQ, gA_sL, gA_sD, gQ_sI, gQ_sR, gQ_sA, gQ_sL, gQ_sD, gL_sI, gL_sR, gL_sA, gL_sQ, gL_sD, kd_nO, kd_nA, *]) (T := TJ2) (N := 3) rfl (by first | assumption | omega) (by first | assumption | omega) (by first | assumption | omega) (Nat.le_of_ble_eq_true rfl) ?_
      refine s_size l1.1 l1.2.1 ?_
      show AW mX13_nextFrom G d Qr Qx _ _ H 16 _ _
      refine r_icmp_ge (tgt := 56) dX13_nextFrom_16 (by decide) (fun h16 => ?_) (fun h16 => ?_)
      · exact absurd h16 (nI_ge (by omega) (by omega))
      · refine r_aload_n (i := 0) dX13_nextFrom_19 rfl rfl ?_
        refine r_getR dX13_nextFrom_20 fR_X13_3 (by first | assumption | (simp only [kd_sI, kd_sR, kd_sA, kd_sQ, kd_sL, kd_sD, ln_sI, ln_sR, ln_sA, ln_sQ, ln_sL, ln_sD, gI_sR, gI_sA, gI_sQ, gI_sL, gI_sD, gR_sI, gR_sA, gR_sQ, gR_sL, gR_sD, gA_sI, gA_sR, gA_sQ, gA_sL, gA_sD, gQ_sI, gQ_sR, gQ_sA, gQ_sL, gQ_sD, gL_sI, gL_sR, gL_sA, gL_sQ, gL_sD]; assumption) | simp [kd_sI, kd_sR, kd_sA, kd_sQ, kd_sL, kd_sD, ln_sI, ln_sR, ln_sA, ln_sQ, ln_sL, ln_sD, gI_sR, gI_sA, gI_sQ, gI_sL, gI_sD, gR_sI, gR_sA, gR_sQ, gR_sL, gR_sD, gA_sI, gA_sR, gA_sQ, gA_sL, gA_sD, gQ_sI, gQ_sR, gQ_sA, gQ_sL, gQ_sD, gL_sI, gL_sR, gL_sA, gL_sQ, gL_sD, kd_nO, kd_nA, *]) (by first | assumption | exact gI_sIs | exact gR_sRs | with_reducible rfl | (simp only [kd_sI, kd_sR, kd_sA, kd_sQ, kd_sL, kd_sD, ln_sI, ln_sR, ln_sA, ln_sQ, ln_sL, ln_sD, gI_sR, gI_sA, gI_sQ, gI_sL, gI_sD, gR_sI, gR_sA, gR_sQ, gR_sL, gR_sD, gA_sI, gA_sR, gA_sQ, gA_sL, gA_sD, gQ_sI, gQ_sR, gQ_sA, gQ_sL, gQ_sD, gL_sI, gL_sR, gL_sA, gL_sQ, gL_sD]; first | done | assumption | with_reducible rfl) | rfl) ?_
        refine r_getR dX13_nextFrom_23 fR_X13_23 (by first | assumption | (simp only [kd_sI, kd_sR, kd_sA, kd_sQ, kd_sL, kd_sD, ln_sI, ln_sR, ln_sA, ln_sQ, ln_sL, ln_sD, gI_sR, gI_sA, gI_sQ, gI_sL, gI_sD, gR_sI, gR_sA, gR_sQ, gR_sL, gR_sD, gA_sI, gA_sR, gA_sQ, gA_sL, gA_sD, gQ_sI, gQ_sR, gQ_sA, gQ_sL, gQ_sD, gL_sI, gL_sR, gL_sA, gL_sQ, gL_sD]; assumption) | simp [kd_sI, kd_sR, kd_sA, kd_sQ, kd_sL, kd_sD, ln_sI, ln_sR, ln_sA, ln_sQ, ln_sL, ln_sD, gI_sR, gI_sA, gI_sQ, gI_sL, gI_sD, gR_sI, gR_sA, gR_sQ, gR_sL, gR_sD, gA_sI, gA_sR, gA_sQ, gA_sL, gA_sD, gQ_sI, gQ_sR, gQ_sA, gQ_sL, gQ_sD, gL_sI, gL_sR, gL_sA, gL_sQ, gL_sD, kd_nO, kd_nA, *]) (by first | assumption | exact gI_sIs | exact gR_sRs | with_reducible rfl | (simp only [kd_sI, kd_sR, kd_sA, kd_sQ, kd_sL, kd_sD, ln_sI, ln_sR, ln_sA, ln_sQ, ln_sL, ln_sD, gI_sR, gI_sA, gI_sQ, gI_sL, gI_sD, gR_sI, gR_sA, gR_sQ, gR_sL, gR_sD, gA_sI, gA_sR, gA_sQ, gA_sL, gA_sD, gQ_sI, gQ_sR, gQ_sA, gQ_sL, gQ_sD, gL_sI, gL_sR, gL_sA, gL_sQ, gL_sD]; first | done | assumption | with_reducible rfl) | rfl) ?_
        refine r_getR dX13_nextFrom_26 fR_X13_29 (by first | assumption | (simp only [kd_sI, kd_sR, kd_sA, kd_sQ, kd_sL, kd_sD, ln_sI, ln_sR, ln_sA, ln_sQ, ln_sL, ln_sD, gI_sR, gI_sA, gI_sQ, gI_sL, gI_sD, gR_sI, gR_sA, gR_sQ, gR_sL, gR_sD, gA_sI, gA_sR, gA_sQ, gA_sL, gA_sD, gQ_sI, gQ_sR, gQ_sA, gQ_sL, gQ_sD, gL_sI, gL_sR, gL_sA, gL_sQ, gL_sD]; assumption) | simp [kd_sI, kd_sR, kd_sA, kd_sQ, kd_sL, kd_sD, ln_sI, ln_sR, ln_sA, ln_sQ, ln_sL, ln_sD, gI_sR, gI_sA, gI_sQ, gI_sL, gI_sD, gR_sI, gR_sA, gR_sQ, gR_sL, gR_sD, gA_sI, gA_sR, gA_sQ, gA_sL, gA_sD, gQ_sI, gQ_sR, gQ_sA, gQ_sL, gQ_sD, gL_sI, gL_sR, gL_sA, gL_sQ, gL_sD, kd_nO, kd_nA, *]) (by first | assumption | exact gI_sIs | exact gR_sRs | with_reducible rfl | (simp only [kd_sI, kd_sR, kd_sA, kd_sQ, kd_sL, kd_sD, ln_sI, ln_sR, ln_sA, ln_sQ, ln_sL, ln_sD, gI_sR, gI_sA, gI_sQ, gI_sL, gI_sD, gR_sI, gR_sA, gR_sQ, gR_sL, gR_sD, gA_sI, gA_sR, gA_sQ, gA_sL, gA_sD, gQ_sI, gQ_sR, gQ_sA, gQ_sL, gQ_sD, gL_sI, gL_sR, gL_sA, gL_sQ, gL_sD]; first | done | assumption | with_reducible rfl) | rfl) ?_
        refine r_iload_n (i := 2) dX13_nextFrom_29 rfl rfl ?_
        refine r_callV (As := [_]) (mc' := 0) (ms' := 0) dX13_nextFrom_30 k_X13_41 rfl (by first | assumption | (simp only [kd_sI, kd_sR, kd_sA, kd_sQ, kd_sL, kd_sD, ln_sI, ln_sR, ln_sA, ln_sQ, ln_sL, ln_sD, gI_sR, gI_sA, gI_sQ, gI_sL, gI_sD, gR_sI, gR_sA, gR_sQ, gR_sL, gR_sD, gA_sI, gA_sR, gA_sQ, gA_sL, gA_sD, gQ_sI, gQ_sR, gQ_sA, gQ_sL, gQ_sD, gL_sI, gL_sR, gL_sA, gL_sQ, gL_sD]; assumption) | simp [kd_sI, kd_sR, kd_sA, kd_sQ, kd_sL, kd_sD, ln_sI, ln_sR, ln_sA, ln_sQ, ln_sL, ln_sD, gI_sR, gI_sA, gI_sQ, gI_sL, gI_sD, gR_sI, gR_sA, gR_sQ, gR_sL, gR_sD, gA_sI, gA_sR, gA_sQ, gA_sL, gA_sD, gQ_sI, gQ_sR, gQ_sA, gQ_sL, gQ_sD, gL_sI, gL_sR, gL_sA, gL_sQ, gL_sD, kd_nO, kd_nA, *]) (T := TJ2) (N := 3) rfl (by first | assumption | omega) (by first | assumption | omega) (by first | assumption | omega) (Nat.le_of_ble_eq_true rfl) ?_
        refine s_get (by omega) l1 (by omega) (by omega) ?_
        show AW mX13_nextFrom G d Qr Qx _ _ H 33 _ _
        refine r_cast dX13_nextFrom_33 (by first | assumption | (simp only [kd_sI, kd_sR, kd_sA, kd_sQ, kd_sL, kd_sD, ln_sI, ln_sR, ln_sA, ln_sQ, ln_sL, ln_sD, gI_sR, gI_sA, gI_sQ, gI_sL, gI_sD, gR_sI, gR_sA, gR_sQ, gR_sL, gR_sD, gA_sI, gA_sR, gA_sQ, gA_sL, gA_sD, gQ_sI, gQ_sR, gQ_sA, gQ_sL, gQ_sD, gL_sI, gL_sR, gL_sA, gL_sQ, gL_sD]; assumption) | simp [kd_sI, kd_sR, kd_sA, kd_sQ, kd_sL, kd_sD, ln_sI, ln_sR, ln_sA, ln_sQ, ln_sL, ln_sD, gI_sR, gI_sA, gI_sQ, gI_sL, gI_sD, gR_sI, gR_sA, gR_sQ, gR_sL, gR_sD, gA_sI, gA_sR, gA_sQ, gA_sL, gA_sD, gQ_sI, gQ_sR, gQ_sA, gQ_sL, gQ_sD, gL_sI, gL_sR, gL_sA, gL_sQ, gL_sD, kd_nO, kd_nA, *]) (T := TX4) (N := 7) rfl q1169 (Or.inl rfl) ?_
        refine r_aload_n (i := 0) dX13_nextFrom_36 rfl rfl ?_
        refine r_getR dX13_nextFrom_37 fR_X13_3 (by first | assumption | (simp only [kd_sI, kd_sR, kd_sA, kd_sQ, kd_sL, kd_sD, ln_sI, ln_sR, ln_sA, ln_sQ, ln_sL, ln_sD, gI_sR, gI_sA, gI_sQ, gI_sL, gI_sD, gR_sI, gR_sA, gR_sQ, gR_sL, gR_sD, gA_sI, gA_sR, gA_sQ, gA_sL, gA_sD, gQ_sI, gQ_sR, gQ_sA, gQ_sL, gQ_sD, gL_sI, gL_sR, gL_sA, gL_sQ, gL_sD]; assumption) | simp [kd_sI, kd_sR, kd_sA, kd_sQ, kd_sL, kd_sD, ln_sI, ln_sR, ln_sA, ln_sQ, ln_sL, ln_sD, gI_sR, gI_sA, gI_sQ, gI_sL, gI_sD, gR_sI, gR_sA, gR_sQ, gR_sL, gR_sD, gA_sI, gA_sR, gA_sQ, gA_sL, gA_sD, gQ_sI, gQ_sR, gQ_sA, gQ_sL, gQ_sD, gL_sI, gL_sR, gL_sA, gL_sQ, gL_sD, kd_nO, kd_nA, *]) (by first | assumption | exact gI_sIs | exact gR_sRs | with_reducible rfl | (simp only [kd_sI, kd_sR, kd_sA, kd_sQ, kd_sL, kd_sD, ln_sI, ln_sR, ln_sA, ln_sQ, ln_sL, ln_sD, gI_sR, gI_sA, gI_sQ, gI_sL, gI_sD, gR_sI, gR_sA, gR_sQ, gR_sL, gR_sD, gA_sI, gA_sR, gA_sQ, gA_sL, gA_sD, gQ_sI, gQ_sR, gQ_sA, gQ_sL, gQ_sD, gL_sI, gL_sR, gL_sA, gL_sQ, gL_sD]; first | done | assumption | with_reducible rfl) | rfl) ?_
        refine r_getI dX13_nextFrom_40 fR_X13_47 (by first | assumption | (simp only [kd_sI, kd_sR, kd_sA, kd_sQ, kd_sL, kd_sD, ln_sI, ln_sR, ln_sA, ln_sQ, ln_sL, ln_sD, gI_sR, gI_sA, gI_sQ, gI_sL, gI_sD, gR_sI, gR_sA, gR_sQ, gR_sL, gR_sD, gA_sI, gA_sR, gA_sQ, gA_sL, gA_sD, gQ_sI, gQ_sR, gQ_sA, gQ_sL, gQ_sD, gL_sI, gL_sR, gL_sA, gL_sQ, gL_sD]; assumption) | simp [kd_sI, kd_sR, kd_sA, kd_sQ, kd_sL, kd_sD, ln_sI, ln_sR, ln_sA, ln_sQ, ln_sL, ln_sD, gI_sR, gI_sA, gI_sQ, gI_sL, gI_sD, gR_sI, gR_sA, gR_sQ, gR_sL, gR_sD, gA_sI, gA_sR, gA_sQ, gA_sL, gA_sD, gQ_sI, gQ_sR, gQ_sA, gQ_sL, gQ_sD, gL_sI, gL_sR, gL_sA, gL_sQ, gL_sD, kd_nO, kd_nA, *]) (by first | assumption | exact gI_sIs | exact gR_sRs | with_reducible rfl | (simp only [kd_sI, kd_sR, kd_sA, kd_sQ, kd_sL, kd_sD, ln_sI, ln_sR, ln_sA, ln_sQ, ln_sL, ln_sD, gI_sR, gI_sA, gI_sQ, gI_sL, gI_sD, gR_sI, gR_sA, gR_sQ, gR_sL, gR_sD, gA_sI, gA_sR, gA_sQ, gA_sL, gA_sD, gQ_sI, gQ_sR, gQ_sA, gQ_sL, gQ_sD, gL_sI, gL_sR, gL_sA, gL_sQ, gL_sD]; first | done | assumption | with_reducible rfl) | rfl) ?_
        refine r_callV (As := [_]) (mc' := 0) (ms' := 0) dX13_nextFrom_43 k_X13_50 rfl (by first | assumption | (simp only [kd_sI, kd_sR, kd_sA, kd_sQ, kd_sL, kd_sD, ln_sI, ln_sR, ln_sA, ln_sQ, ln_sL, ln_sD, gI_sR, gI_sA, gI_sQ, gI_sL, gI_sD, gR_sI, gR_sA, gR_sQ, gR_sL, gR_sD, gA_sI, gA_sR, gA_sQ, gA_sL, gA_sD, gQ_sI, gQ_sR, gQ_sA, gQ_sL, gQ_sD, gL_sI, gL_sR, gL_sA, gL_sQ, gL_sD]; assumption) | simp [kd_sI, kd_sR, kd_sA, kd_sQ, kd_sL, kd_sD, ln_sI, ln_sR, ln_sA, ln_sQ, ln_sL, ln_sD, gI_sR, gI_sA, gI_sQ, gI_sL, gI_sD, gR_sI, gR_sA, gR_sQ, gR_sL, gR_sD, gA_sI, gA_sR, gA_sQ, gA_sL, gA_sD, gQ_sI, gQ_sR, gQ_sA, gQ_sL, gQ_sD, gL_sI, gL_sR, gL_sA, gL_sQ, gL_sD, kd_nO, kd_nA, *]) (T := TX4) (N := 7) rfl (by first | assumption | omega) (by first | assumption | omega) (by first | assumption | omega) (Nat.le_of_ble_eq_true rfl) ?_
        refine c_otherEnd hTi ?_
        rw [tvOther_ed hT (by omega) hp]
        show AW mX13_nextFrom G d Qr Qx _ _ H 46 _ _
        rw [show nxF g pl i (k + 1) = if (ed g i pl).isSome then i else nxF g pl (i + 1) k from rfl] at hx
        cases he : ed g i pl with
        | some o =>
          rw [he, if_pos (show (some o).isSome = true from rfl)] at hx
          have ho := ed_lt hT (by omega) he
          refine r_iconst (v := -1) dX13_nextFrom_46 (by decide) ?_
          refine r_icmp_ne (tgt := 56) dX13_nextFrom_47 (by decide) (fun h47 => ?_) (fun h47 => ?_)
          · refine r_iload_n (i := 2) dX13_nextFrom_56 rfl rfl ?_
            refine r_ireturn dX13_nextFrom_57 rfl (by first | rfl | assumption | exact vp_nar_int _ | exact pk_nc _) ?_
            rw [← hx] at hQ
            exact hQ
          · exact absurd h47 (nI8_m1 o ho)
        | none =>
          rw [he, if_neg (by simp)] at hx
          refine r_iconst (v := -1) dX13_nextFrom_46 (by decide) ?_
          refine r_icmp_ne (tgt := 56) dX13_nextFrom_47 (by decide) (fun h47 => ?_) (fun h47 => ?_)
          · exact absurd rfl h47
          · refine r_iinc dX13_nextFrom_50 rfl (by first | exact nI_1 _ | rfl) (by simp only [lset]; rfl) ?_
            refine r_goto (tgt := 2) dX13_nextFrom_53 (by decide) ?_
            exact ih (i + 1) (by omega) hx
  exact loop (n - t) t (by omega) hN
theorem c_x13HasNext {k : Nat} (hV : PlV G H p L n e tr tc tf tu sp g) (hI : It1 H it q1 p pl) (hk : gI H 56 it = nI k) (hkn : k ≤ n) (hd : 1 ≤ d) (hQ : Qr (some (vI (if k = n then nI 0 else nI 1))) H) : AMet G d 0 0 yX13_hasNext wX13_hasNext H [vR (some it)] Qr Qx := by
  obtain ⟨⟨a1, a2⟩, a3, a4, a5⟩ := hI
  obtain ⟨⟨p1, p2, p3⟩, l1, l2, l3⟩ := hV
  have kr := l1.1
  refine AMet.of (M := mX13_hasNext) (maxL := 1) (by first | rfl | decide +kernel) rfl (Nat.le_of_ble_eq_true rfl) ?_
  show AW mX13_hasNext _ _ _ _ _ _ _ 0 [some (vR (some it))] []
  refine r_aload_n (i := 0) dX13_hasNext_0 rfl rfl ?_
  refine r_getI dX13_hasNext_1 fR_X13_19 (by first | assumption | (simp only [kd_sI, kd_sR, kd_sA, kd_sQ, kd_sL, kd_sD, ln_sI, ln_sR, ln_sA, ln_sQ, ln_sL, ln_sD, gI_sR, gI_sA, gI_sQ, gI_sL, gI_sD, gR_sI, gR_sA, gR_sQ, gR_sL, gR_sD, gA_sI, gA_sR, gA_sQ, gA_sL, gA_sD, gQ_sI, gQ_sR, gQ_sA, gQ_sL, gQ_sD, gL_sI, gL_sR, gL_sA, gL_sQ, gL_sD]; assumption) | simp [kd_sI, kd_sR, kd_sA, kd_sQ, kd_sL, kd_sD, ln_sI, ln_sR, ln_sA, ln_sQ, ln_sL, ln_sD, gI_sR, gI_sA, gI_sQ, gI_sL, gI_sD, gR_sI, gR_sA, gR_sQ, gR_sL, gR_sD, gA_sI, gA_sR, gA_sQ, gA_sL, gA_sD, gQ_sI, gQ_sR, gQ_sA, gQ_sL, gQ_sD, gL_sI, gL_sR, gL_sA, gL_sQ, gL_sD, kd_nO, kd_nA, *]) (by first | assumption | exact gI_sIs | exact gR_sRs | with_reducible rfl | (simp only [kd_sI, kd_sR, kd_sA, kd_sQ, kd_sL, kd_sD, ln_sI, ln_sR, ln_sA, ln_sQ, ln_sL, ln_sD, gI_sR, gI_sA, gI_sQ, gI_sL, gI_sD, gR_sI, gR_sA, gR_sQ, gR_sL, gR_sD, gA_sI, gA_sR, gA_sQ, gA_sL, gA_sD, gQ_sI, gQ_sR, gQ_sA, gQ_sL, gQ_sD, gL_sI, gL_sR, gL_sA, gL_sQ, gL_sD]; first | done | assumption | with_reducible rfl) | rfl) ?_
  refine r_aload_n (i := 0) dX13_hasNext_4 rfl rfl ?_
  refine r_getR dX13_hasNext_5 fR_X13_3 (by first | assumption | (simp only [kd_sI, kd_sR, kd_sA, kd_sQ, kd_sL, kd_sD, ln_sI, ln_sR, ln_sA, ln_sQ, ln_sL, ln_sD, gI_sR, gI_sA, gI_sQ, gI_sL, gI_sD, gR_sI, gR_sA, gR_sQ, gR_sL, gR_sD, gA_sI, gA_sR, gA_sQ, gA_sL, gA_sD, gQ_sI, gQ_sR, gQ_sA, gQ_sL, gQ_sD, gL_sI, gL_sR, gL_sA, gL_sQ, gL_sD]; assumption) | simp [kd_sI, kd_sR, kd_sA, kd_sQ, kd_sL, kd_sD, ln_sI, ln_sR, ln_sA, ln_sQ, ln_sL, ln_sD, gI_sR, gI_sA, gI_sQ, gI_sL, gI_sD, gR_sI, gR_sA, gR_sQ, gR_sL, gR_sD, gA_sI, gA_sR, gA_sQ, gA_sL, gA_sD, gQ_sI, gQ_sR, gQ_sA, gQ_sL, gQ_sD, gL_sI, gL_sR, gL_sA, gL_sQ, gL_sD, kd_nO, kd_nA, *]) (by first | assumption | exact gI_sIs | exact gR_sRs | with_reducible rfl | (simp only [kd_sI, kd_sR, kd_sA, kd_sQ, kd_sL, kd_sD, ln_sI, ln_sR, ln_sA, ln_sQ, ln_sL, ln_sD, gI_sR, gI_sA, gI_sQ, gI_sL, gI_sD, gR_sI, gR_sA, gR_sQ, gR_sL, gR_sD, gA_sI, gA_sR, gA_sQ, gA_sL, gA_sD, gQ_sI, gQ_sR, gQ_sA, gQ_sL, gQ_sD, gL_sI, gL_sR, gL_sA, gL_sQ, gL_sD]; first | done | assumption | with_reducible rfl) | rfl) ?_
  refine r_getR dX13_hasNext_8 fR_X13_23 (by first | assumption | (simp only [kd_sI, kd_sR, kd_sA, kd_sQ, kd_sL, kd_sD, ln_sI, ln_sR, ln_sA, ln_sQ, ln_sL, ln_sD, gI_sR, gI_sA, gI_sQ, gI_sL, gI_sD, gR_sI, gR_sA, gR_sQ, gR_sL, gR_sD, gA_sI, gA_sR, gA_sQ, gA_sL, gA_sD, gQ_sI, gQ_sR, gQ_sA, gQ_sL, gQ_sD, gL_sI, gL_sR, gL_sA, gL_sQ, gL_sD]; assumption) | simp [kd_sI, kd_sR, kd_sA, kd_sQ, kd_sL, kd_sD, ln_sI, ln_sR, ln_sA, ln_sQ, ln_sL, ln_sD, gI_sR, gI_sA, gI_sQ, gI_sL, gI_sD, gR_sI, gR_sA, gR_sQ, gR_sL, gR_sD, gA_sI, gA_sR, gA_sQ, gA_sL, gA_sD, gQ_sI, gQ_sR, gQ_sA, gQ_sL, gQ_sD, gL_sI, gL_sR, gL_sA, gL_sQ, gL_sD, kd_nO, kd_nA, *]) (by first | assumption | exact gI_sIs | exact gR_sRs | with_reducible rfl | (simp only [kd_sI, kd_sR, kd_sA, kd_sQ, kd_sL, kd_sD, ln_sI, ln_sR, ln_sA, ln_sQ, ln_sL, ln_sD, gI_sR, gI_sA, gI_sQ, gI_sL, gI_sD, gR_sI, gR_sA, gR_sQ, gR_sL, gR_sD, gA_sI, gA_sR, gA_sQ, gA_sL, gA_sD, gQ_sI, gQ_sR, gQ_sA, gQ_sL, gQ_sD, gL_sI, gL_sR, gL_sA, gL_sQ, gL_sD]; first | done | assumption | with_reducible rfl) | rfl) ?_
  refine r_getR dX13_hasNext_11 fR_X13_29 (by first | assumption | (simp only [kd_sI, kd_sR, kd_sA, kd_sQ, kd_sL, kd_sD, ln_sI, ln_sR, ln_sA, ln_sQ, ln_sL, ln_sD, gI_sR, gI_sA, gI_sQ, gI_sL, gI_sD, gR_sI, gR_sA, gR_sQ, gR_sL, gR_sD, gA_sI, gA_sR, gA_sQ, gA_sL, gA_sD, gQ_sI, gQ_sR, gQ_sA, gQ_sL, gQ_sD, gL_sI, gL_sR, gL_sA, gL_sQ, gL_sD]; assumption) | simp [kd_sI, kd_sR, kd_sA, kd_sQ, kd_sL, kd_sD, ln_sI, ln_sR, ln_sA, ln_sQ, ln_sL, ln_sD, gI_sR, gI_sA, gI_sQ, gI_sL, gI_sD, gR_sI, gR_sA, gR_sQ, gR_sL, gR_sD, gA_sI, gA_sR, gA_sQ, gA_sL, gA_sD, gQ_sI, gQ_sR, gQ_sA, gQ_sL, gQ_sD, gL_sI, gL_sR, gL_sA, gL_sQ, gL_sD, kd_nO, kd_nA, *]) (by first | assumption | exact gI_sIs | exact gR_sRs | with_reducible rfl | (simp only [kd_sI, kd_sR, kd_sA, kd_sQ, kd_sL, kd_sD, ln_sI, ln_sR, ln_sA, ln_sQ, ln_sL, ln_sD, gI_sR, gI_sA, gI_sQ, gI_sL, gI_sD, gR_sI, gR_sA, gR_sQ, gR_sL, gR_sD, gA_sI, gA_sR, gA_sQ, gA_sL, gA_sD, gQ_sI, gQ_sR, gQ_sA, gQ_sL, gQ_sD, gL_sI, gL_sR, gL_sA, gL_sQ, gL_sD]; first | done | assumption | with_reducible rfl) | rfl) ?_
  refine r_callV (As := []) (mc' := 0) (ms' := 0) dX13_hasNext_14 k_X13_35 rfl (by first | assumption | (simp only [kd_sI, kd_sR, kd_sA, kd_sQ, kd_sL, kd_sD, ln_sI, ln_sR, ln_sA, ln_sQ, ln_sL, ln_sD, gI_sR, gI_sA, gI_sQ, gI_sL, gI_sD, gR_sI, gR_sA, gR_sQ, gR_sL, gR_sD, gA_sI, gA_sR, gA_sQ, gA_sL, gA_sD, gQ_sI, gQ_sR, gQ_sA, gQ_sL, gQ_sD, gL_sI, gL_sR, gL_sA, gL_sQ, gL_sD]; assumption) | simp [kd_sI, kd_sR, kd_sA, kd_sQ, kd_sL, kd_sD, ln_sI, ln_sR, ln_sA, ln_sQ, ln_sL, ln_sD, gI_sR, gI_sA, gI_sQ, gI_sL, gI_sD, gR_sI, gR_sA, gR_sQ, gR_sL, gR_sD, gA_sI, gA_sR, gA_sQ, gA_sL, gA_sD, gQ_sI, gQ_sR, gQ_sA, gQ_sL, gQ_sD, gL_sI, gL_sR, gL_sA, gL_sQ, gL_sD, kd_nO, kd_nA, *]) (T := TJ2) (N := 3) rfl (by first | assumption | omega) (by first | assumption | omega) (by first | assumption | omega) (Nat.le_of_ble_eq_true rfl) ?_
  refine s_size l1.1 l1.2.1 ?_
  show AW mX13_hasNext G d Qr Qx _ _ H 17 _ _
  by_cases hkk : k = n
  · rw [if_pos hkk] at hQ
    refine r_icmp_ge (tgt := 24) dX13_hasNext_17 (by decide) (fun h17 => ?_) (fun h17 => ?_)
    · refine r_iconst (v := nI 0) dX13_hasNext_24 (by decide) ?_
      refine r_ireturn dX13_hasNext_25 rfl (by first | rfl | assumption | exact vp_nar_int _ | exact pk_nc _) ?_
      exact hQ
    · exact absurd (nI_le (by omega) (by omega)) h17
  · rw [if_neg hkk] at hQ
    refine r_icmp_ge (tgt := 24) dX13_hasNext_17 (by decide) (fun h17 => ?_) (fun h17 => ?_)
    · exact absurd h17 (nI_ge (by omega) (by omega))
    · refine r_iconst (v := nI 1) dX13_hasNext_20 (by decide) ?_
      refine r_goto (tgt := 25) dX13_hasNext_21 (by decide) ?_
      refine r_ireturn dX13_hasNext_25 rfl (by first | rfl | assumption | exact vp_nar_int _ | exact pk_nc _) ?_
      exact hQ
/-- the check that holds costs nothing -/
theorem s_chkElT (hQ : Qr none H) : AMet G d 0 0 yX1_checkElement wX1_checkElement H [vI (nI 1)] Qr Qx := by
  refine AMet.of (M := mX1_checkElement) (maxL := 1) (by first | rfl | decide +kernel) rfl (Nat.le_of_ble_eq_true rfl) ?_
  show AW mX1_checkElement _ _ _ _ _ _ _ 0 [some (vI (nI 1))] []
  refine r_iload_n (i := 0) dX1_checkElement_0 rfl rfl ?_
  refine r_if_ne (tgt := 12) dX1_checkElement_1 (by decide) (fun h1 => ?_) (fun h1 => ?_)
  · refine r_return dX1_checkElement_12 rfl ?_
    exact hQ
  · exact absurd h1 (by decide)
theorem c_x13Next {k : Nat} (hd : 5 ≤ d) (hV : PlV G H p L n e tr tc tf tu sp g) (hT : GT g) (hn : n = nat g 40) (hp : pl < 8) (hI : It1 H it q1 p pl) (hk : gI H 56 it = nI k) (hkn : k < n) (hQ : Qr (some (vR (some (ivO G k)))) (sI H 56 it (nI (nxF g pl (k + 1) (n - (k + 1)))))) : AMet G d 0 0 yX13_next wX13_next H [vR (some it)] Qr Qx := by
  have hI0 := hI
  obtain ⟨⟨a1, a2⟩, a3, a4, a5⟩ := hI
  have hn12 := hV.2.2.1
  refine AMet.of (M := mX13_next) (maxL := 1) (by first | rfl | decide +kernel) rfl (Nat.le_of_ble_eq_true rfl) ?_
  show AW mX13_next _ _ _ _ _ _ _ 0 [some (vR (some it))] []
  refine r_aload_n (i := 0) dX13_next_0 rfl rfl ?_
  refine r_callV (As := []) (mc' := 0) (ms' := 0) dX13_next_1 k_X13_67 rfl (by first | assumption | (simp only [kd_sI, kd_sR, kd_sA, kd_sQ, kd_sL, kd_sD, ln_sI, ln_sR, ln_sA, ln_sQ, ln_sL, ln_sD, gI_sR, gI_sA, gI_sQ, gI_sL, gI_sD, gR_sI, gR_sA, gR_sQ, gR_sL, gR_sD, gA_sI, gA_sR, gA_sQ, gA_sL, gA_sD, gQ_sI, gQ_sR, gQ_sA, gQ_sL, gQ_sD, gL_sI, gL_sR, gL_sA, gL_sQ, gL_sD]; assumption) | simp [kd_sI, kd_sR, kd_sA, kd_sQ, kd_sL, kd_sD, ln_sI, ln_sR, ln_sA, ln_sQ, ln_sL, ln_sD, gI_sR, gI_sA, gI_sQ, gI_sL, gI_sD, gR_sI, gR_sA, gR_sQ, gR_sL, gR_sD, gA_sI, gA_sR, gA_sQ, gA_sL, gA_sD, gQ_sI, gQ_sR, gQ_sA, gQ_sL, gQ_sD, gL_sI, gL_sR, gL_sA, gL_sQ, gL_sD, kd_nO, kd_nA, *]) (T := TX13) (N := 2) rfl (by first | assumption | omega) (by first | assumption | omega) (by first | assumption | omega) (Nat.le_of_ble_eq_true rfl) ?_
  refine AMet.of (M := mX13_next_2) (maxL := 2) (by first | rfl | decide +kernel) rfl (Nat.le_of_ble_eq_true rfl) ?_
  show AW mX13_next_2 _ _ _ _ _ _ _ 0 [some (vR (some it)), none] []
  refine r_aload_n (i := 0) dX13_next_2_0 rfl rfl ?_
  refine r_callV (As := []) (mc' := 0) (ms' := 0) dX13_next_2_1 k_X13_53 rfl (by first | assumption | (simp only [kd_sI, kd_sR, kd_sA, kd_sQ, kd_sL, kd_sD, ln_sI, ln_sR, ln_sA, ln_sQ, ln_sL, ln_sD, gI_sR, gI_sA, gI_sQ, gI_sL, gI_sD, gR_sI, gR_sA, gR_sQ, gR_sL, gR_sD, gA_sI, gA_sR, gA_sQ, gA_sL, gA_sD, gQ_sI, gQ_sR, gQ_sA, gQ_sL, gQ_sD, gL_sI, gL_sR, gL_sA, gL_sQ, gL_sD]; assumption) | simp [kd_sI, kd_sR, kd_sA, kd_sQ, kd_sL, kd_sD, ln_sI, ln_sR, ln_sA, ln_sQ, ln_sL, ln_sD, gI_sR, gI_sA, gI_sQ, gI_sL, gI_sD, gR_sI, gR_sA, gR_sQ, gR_sL, gR_sD, gA_sI, gA_sR, gA_sQ, gA_sL, gA_sD, gQ_sI, gQ_sR, gQ_sA, gQ_sL, gQ_sD, gL_sI, gL_sR, gL_sA, gL_sQ, gL_sD, kd_nO, kd_nA, *]) (T := TX13) (N := 2) rfl (by first | assumption | omega) (by first | assumption | omega) (by first | assumption | omega) (Nat.le_of_ble_eq_true rfl) ?_
  refine c_x13HasNext hV hI0 hk (by omega) (by omega) ?_
  rw [if_neg (by omega)]
  show AW mX13_next_2 G _ _ _ _ _ H 4 _ _
  refine r_callSN (As := [_]) (mc' := 0) (ms' := 0) dX13_next_2_4 k_X13_57 rfl (by first | assumption | omega) (by first | assumption | omega) (by first | assumption | omega) (Nat.le_of_ble_eq_true rfl) ?_
  refine s_chkElT ?_
  show AW mX13_next_2 G _ _ _ _ _ H 7 _ _
  refine r_aload_n (i := 0) dX13_next_2_7 rfl rfl ?_
  refine r_getI dX13_next_2_8 fR_X13_19 (by first | assumption | (simp only [kd_sI, kd_sR, kd_sA, kd_sQ, kd_sL, kd_sD, ln_sI, ln_sR, ln_sA, ln_sQ, ln_sL, ln_sD, gI_sR, gI_sA, gI_sQ, gI_sL, gI_sD, gR_sI, gR_sA, gR_sQ, gR_sL, gR_sD, gA_sI, gA_sR, gA_sQ, gA_sL, gA_sD, gQ_sI, gQ_sR, gQ_sA, gQ_sL, gQ_sD, gL_sI, gL_sR, gL_sA, gL_sQ, gL_sD]; assumption) | simp [kd_sI, kd_sR, kd_sA, kd_sQ, kd_sL, kd_sD, ln_sI, ln_sR, ln_sA, ln_sQ, ln_sL, ln_sD, gI_sR, gI_sA, gI_sQ, gI_sL, gI_sD, gR_sI, gR_sA, gR_sQ, gR_sL, gR_sD, gA_sI, gA_sR, gA_sQ, gA_sL, gA_sD, gQ_sI, gQ_sR, gQ_sA, gQ_sL, gQ_sD, gL_sI, gL_sR, gL_sA, gL_sQ, gL_sD, kd_nO, kd_nA, *]) (by first | assumption | exact gI_sIs | exact gR_sRs | with_reducible rfl | (simp only [kd_sI, kd_sR, kd_sA, kd_sQ, kd_sL, kd_sD, ln_sI, ln_sR, ln_sA, ln_sQ, ln_sL, ln_sD, gI_sR, gI_sA, gI_sQ, gI_sL, gI_sD, gR_sI, gR_sA, gR_sQ, gR_sL, gR_sD, gA_sI, gA_sR, gA_sQ, gA_sL, gA_sD, gQ_sI, gQ_sR, gQ_sA, gQ_sL, gQ_sD, gL_sI, gL_sR, gL_sA, gL_sQ, gL_sD]; first | done | assumption | with_reducible rfl) | rfl) ?_
  refine r_istore_n (i := 1) dX13_next_2_11 rfl (Nat.le_of_ble_eq_true rfl) (by simp only [lset]; rfl) ?_
  refine r_aload_n (i := 0) dX13_next_2_12 rfl rfl ?_
  refine r_aload_n (i := 0) dX13_next_2_13 rfl rfl ?_
  refine r_iload_n (i := 1) dX13_next_2_14 rfl rfl ?_
  refine r_iconst (v := nI 1) dX13_next_2_15 (by decide) ?_
  refine r_iadd dX13_next_2_16 ?_
  try simp only [nI_add]
  refine r_callV (As := [_]) (mc' := 0) (ms' := 0) dX13_next_2_17 k_X13_15 rfl (by first | assumption | (simp only [kd_sI, kd_sR, kd_sA, kd_sQ, kd_sL, kd_sD, ln_sI, ln_sR, ln_sA, ln_sQ, ln_sL, ln_sD, gI_sR, gI_sA, gI_sQ, gI_sL, gI_sD, gR_sI, gR_sA, gR_sQ, gR_sL, gR_sD, gA_sI, gA_sR, gA_sQ, gA_sL, gA_sD, gQ_sI, gQ_sR, gQ_sA, gQ_sL, gQ_sD, gL_sI, gL_sR, gL_sA, gL_sQ, gL_sD]; assumption) | simp [kd_sI, kd_sR, kd_sA, kd_sQ, kd_sL, kd_sD, ln_sI, ln_sR, ln_sA, ln_sQ, ln_sL, ln_sD, gI_sR, gI_sA, gI_sQ, gI_sL, gI_sD, gR_sI, gR_sA, gR_sQ, gR_sL, gR_sD, gA_sI, gA_sR, gA_sQ, gA_sL, gA_sD, gQ_sI, gQ_sR, gQ_sA, gQ_sL, gQ_sD, gL_sI, gL_sR, gL_sA, gL_sQ, gL_sD, kd_nO, kd_nA, *]) (T := TX13) (N := 2) rfl (by first | assumption | omega) (by first | assumption | omega) (by first | assumption | omega) (Nat.le_of_ble_eq_true rfl) ?_
  refine c_nextFrom (by omega) hV hT hn hp hI0 (by omega) ?_
  show AW mX13_next_2 G _ _ _ _ _ H 20 _ _
  refine r_putI dX13_next_2_20 fG_X13_19 (fun _ => by first | rfl | contradiction) (by first | assumption | (simp only [kd_sI, kd_sR, kd_sA, kd_sQ, kd_sL, kd_sD, ln_sI, ln_sR, ln_sA, ln_sQ, ln_sL, ln_sD, gI_sR, gI_sA, gI_sQ, gI_sL, gI_sD, gR_sI, gR_sA, gR_sQ, gR_sL, gR_sD, gA_sI, gA_sR, gA_sQ, gA_sL, gA_sD, gQ_sI, gQ_sR, gQ_sA, gQ_sL, gQ_sD, gL_sI, gL_sR, gL_sA, gL_sQ, gL_sD]; assumption) | simp [kd_sI, kd_sR, kd_sA, kd_sQ, kd_sL, kd_sD, ln_sI, ln_sR, ln_sA, ln_sQ, ln_sL, ln_sD, gI_sR, gI_sA, gI_sQ, gI_sL, gI_sD, gR_sI, gR_sA, gR_sQ, gR_sL, gR_sD, gA_sI, gA_sR, gA_sQ, gA_sL, gA_sD, gQ_sI, gQ_sR, gQ_sA, gQ_sL, gQ_sD, gL_sI, gL_sR, gL_sA, gL_sQ, gL_sD, kd_nO, kd_nA, *]) (by first | rfl | assumption) (by first | rfl | assumption) ?_
  refine r_iload_n (i := 1) dX13_next_2_23 rfl rfl ?_
  refine r_callS (As := [_]) (mc' := 0) (ms' := 0) dX13_next_2_24 k_X13_61 rfl (by first | assumption | omega) (by first | assumption | omega) (by first | assumption | omega) (Nat.le_of_ble_eq_true rfl) ?_
  refine s_valueOfC (by omega) ?_
  show AW mX13_next_2 G _ _ _ _ _ _ 27 _ _
  refine r_areturn dX13_next_2_27 rfl (by first | exact Or.inl ⟨_, rfl⟩ | exact Or.inr ⟨_, rfl⟩) ?_
  show AW mX13_next G _ _ _ _ _ _ 4 _ _
  refine r_areturn dX13_next_4 rfl (by first | exact Or.inl ⟨_, rfl⟩ | exact Or.inr ⟨_, rfl⟩) ?_
  exact hQ
theorem c_x12Init {a : Nat} (hd : 1 ≤ d) (hk : kd H a = 12) (hQ : Qr none (sI (sR H 55 a (some p)) 54 a (nI pl))) : AMet G d 0 0 yX12_init wX12_init H [vR (some a), vR (some p), vI (nI pl)] Qr Qx := by
  refine AMet.of (M := mX12_init) (maxL := 3) (by first | rfl | decide +kernel) rfl (Nat.le_of_ble_eq_true rfl) ?_
  show AW mX12_init _ _ _ _ _ _ _ 0 [some (vR (some a)), some (vR (some p)), some (vI (nI pl))] []
  refine r_aload_n (i := 0) dX12_init_0 rfl rfl ?_
  refine r_aload_n (i := 1) dX12_init_1 rfl rfl ?_
  refine r_putR dX12_init_2 fG_X12_1 (fun _ => by first | rfl | contradiction) (by first | assumption | (simp only [kd_sI, kd_sR, kd_sA, kd_sQ, kd_sL, kd_sD, ln_sI, ln_sR, ln_sA, ln_sQ, ln_sL, ln_sD, gI_sR, gI_sA, gI_sQ, gI_sL, gI_sD, gR_sI, gR_sA, gR_sQ, gR_sL, gR_sD, gA_sI, gA_sR, gA_sQ, gA_sL, gA_sD, gQ_sI, gQ_sR, gQ_sA, gQ_sL, gQ_sD, gL_sI, gL_sR, gL_sA, gL_sQ, gL_sD]; assumption) | simp [kd_sI, kd_sR, kd_sA, kd_sQ, kd_sL, kd_sD, ln_sI, ln_sR, ln_sA, ln_sQ, ln_sL, ln_sD, gI_sR, gI_sA, gI_sQ, gI_sL, gI_sD, gR_sI, gR_sA, gR_sQ, gR_sL, gR_sD, gA_sI, gA_sR, gA_sQ, gA_sL, gA_sD, gQ_sI, gQ_sR, gQ_sA, gQ_sL, gQ_sD, gL_sI, gL_sR, gL_sA, gL_sQ, gL_sD, kd_nO, kd_nA, *]) (by first | exact Or.inl ⟨_, rfl⟩ | exact Or.inr ⟨_, rfl⟩) ?_
  refine r_aload_n (i := 0) dX12_init_5 rfl rfl ?_
  refine r_iload_n (i := 2) dX12_init_6 rfl rfl ?_
  refine r_putI dX12_init_7 fG_X12_7 (fun _ => by first | rfl | contradiction) (by first | assumption | (simp only [kd_sI, kd_sR, kd_sA, kd_sQ, kd_sL, kd_sD, ln_sI, ln_sR, ln_sA, ln_sQ, ln_sL, ln_sD, gI_sR, gI_sA, gI_sQ, gI_sL, gI_sD, gR_sI, gR_sA, gR_sQ, gR_sL, gR_sD, gA_sI, gA_sR, gA_sQ, gA_sL, gA_sD, gQ_sI, gQ_sR, gQ_sA, gQ_sL, gQ_sD, gL_sI, gL_sR, gL_sA, gL_sQ, gL_sD]; assumption) | simp [kd_sI, kd_sR, kd_sA, kd_sQ, kd_sL, kd_sD, ln_sI, ln_sR, ln_sA, ln_sQ, ln_sL, ln_sD, gI_sR, gI_sA, gI_sQ, gI_sL, gI_sD, gR_sI, gR_sA, gR_sQ, gR_sL, gR_sD, gA_sI, gA_sR, gA_sQ, gA_sL, gA_sD, gQ_sI, gQ_sR, gQ_sA, gQ_sL, gQ_sD, gL_sI, gL_sR, gL_sA, gL_sQ, gL_sD, kd_nO, kd_nA, *]) (by first | rfl | assumption) (by first | rfl | assumption) ?_
  refine r_aload_n (i := 0) dX12_init_10 rfl rfl ?_
  refine r_objInit dX12_init_11 q1926 (by with_reducible rfl) (by first | assumption | omega) (Nat.le_of_ble_eq_true rfl) ?_
  refine r_return dX12_init_14 rfl ?_
  exact hQ
theorem c_traysAt (hd : 2 ≤ d) (hp : kd H p = 2) (hQ : ∀ H' q, Ks (fun _ => False) H H' → kd H q = 0 → kd H' q = 12 → gR H' 55 q = some p → gI H' 54 q = nI pl → Qr (some (vR (some q))) H') : AMet G d 1 2 yX2_traysAt wX2_traysAt H [vR (some p), vI (nI pl)] Qr Qx := by
  refine AMet.of (M := mX2_traysAt) (maxL := 2) (by first | rfl | decide +kernel) rfl (Nat.le_of_ble_eq_true rfl) ?_
  show AW mX2_traysAt _ _ _ _ _ _ _ 0 [some (vR (some p)), some (vI (nI pl))] []
  refine r_new dX2_traysAt_0 cT_X12 q1921 q1922 q129 (by decide +kernel) (by first | assumption | omega) (by first | assumption | omega) (fun q0 hq0 => ?_)
  have hq : kd H q0 = 0 := hq0
  refine AW.name (fun H1 hH1 => ?_)
  have hK1 : Ks (fun _ => False) H H1 := by rw [hH1]; exact Ks.rf.nO hq
  have kq : kd H1 q0 = 12 := by rw [hH1, kd_nO, if_pos rfl]
  refine r_dup dX2_traysAt_3 rfl ?_
  refine r_aload_n (i := 0) dX2_traysAt_4 rfl rfl ?_
  refine r_iload_n (i := 1) dX2_traysAt_5 rfl rfl ?_
  refine r_callI (As := [_, _]) (mc' := 0) (ms' := 0) dX2_traysAt_6 k_X2_179 rfl (by first | assumption | omega) (by first | assumption | omega) (by first | assumption | omega) (Nat.le_of_ble_eq_true rfl) ?_
  refine c_x12Init (by omega) kq ?_
  show AW mX2_traysAt G d Qr Qx _ _ _ 9 _ _
  refine r_areturn dX2_traysAt_9 rfl (by first | exact Or.inl ⟨_, rfl⟩ | exact Or.inr ⟨_, rfl⟩) ?_
  exact hQ _ q0 ((hK1.sR (fun h => h hq)).sI (fun h => h hq)) hq kq (by show gR (sR H1 55 q0 (some p)) 55 q0 = _; exact gR_sRs) gI_sIs
theorem c_x13Init {a : Nat} (hd : 5 ≤ d) (hV : PlV G H p L n e tr tc tf tu sp g) (hT : GT g) (hn : n = nat g 40) (hp : pl < 8) (hk : kd H a = 13) (hq : kd H q1 = 12) (h55 : gR H 55 q1 = some p) (h54 : gI H 54 q1 = nI pl) (hQ : Qr none (sI (sR H 57 a (some q1)) 56 a (nI (nxF g pl 0 n)))) : AMet G d 0 0 yX13_init wX13_init H [vR (some a), vR (some q1)] Qr Qx := by
  refine AMet.of (M := mX13_init) (maxL := 2) (by first | rfl | decide +kernel) rfl (Nat.le_of_ble_eq_true rfl) ?_
  show AW mX13_init _ _ _ _ _ _ _ 0 [some (vR (some a)), some (vR (some q1))] []
  refine r_aload_n (i := 0) dX13_init_0 rfl rfl ?_
  refine r_aload_n (i := 1) dX13_init_1 rfl rfl ?_
  refine r_putR dX13_init_2 fG_X13_3 (fun _ => by first | rfl | contradiction) (by first | assumption | (simp only [kd_sI, kd_sR, kd_sA, kd_sQ, kd_sL, kd_sD, ln_sI, ln_sR, ln_sA, ln_sQ, ln_sL, ln_sD, gI_sR, gI_sA, gI_sQ, gI_sL, gI_sD, gR_sI, gR_sA, gR_sQ, gR_sL, gR_sD, gA_sI, gA_sR, gA_sQ, gA_sL, gA_sD, gQ_sI, gQ_sR, gQ_sA, gQ_sL, gQ_sD, gL_sI, gL_sR, gL_sA, gL_sQ, gL_sD]; assumption) | simp [kd_sI, kd_sR, kd_sA, kd_sQ, kd_sL, kd_sD, ln_sI, ln_sR, ln_sA, ln_sQ, ln_sL, ln_sD, gI_sR, gI_sA, gI_sQ, gI_sL, gI_sD, gR_sI, gR_sA, gR_sQ, gR_sL, gR_sD, gA_sI, gA_sR, gA_sQ, gA_sL, gA_sD, gQ_sI, gQ_sR, gQ_sA, gQ_sL, gQ_sD, gL_sI, gL_sR, gL_sA, gL_sQ, gL_sD, kd_nO, kd_nA, *]) (by first | exact Or.inl ⟨_, rfl⟩ | exact Or.inr ⟨_, rfl⟩) ?_
  refine AW.name (fun H1 hH1 => ?_)
  have hK1 : Ks (fun b => b = a) H H1 := by rw [hH1]; exact (Ks.rf (S := fun b => b = a)).sR (fun _ => rfl)
  have ka : kd H1 a = 13 := by rw [hH1]; exact hk
  have hne : ¬ q1 = a := ne_of_kd hq hk (by decide)
  have eq := hK1.at (a := q1) (by rw [hq]; decide) hne
  have hV1 := hV.ks hK1 (fun b _ e => by rw [e]; omega)
  have hI1 : It1 H1 a q1 p pl := ⟨⟨ka, by rw [hH1]; exact gR_sRs⟩, by rw [at_kd eq]; exact hq, by rw [at_gR eq]; exact h55, by rw [at_gI eq]; exact h54⟩
  refine r_aload_n (i := 0) dX13_init_5 rfl rfl ?_
  refine r_objInit dX13_init_6 q1950 (by with_reducible rfl) (by first | assumption | omega) (Nat.le_of_ble_eq_true rfl) ?_
  refine r_aload_n (i := 0) dX13_init_9 rfl rfl ?_
  refine r_aload_n (i := 0) dX13_init_10 rfl rfl ?_
  refine r_iconst (v := nI 0) dX13_init_11 (by decide) ?_
  refine r_callV (As := [_]) (mc' := 0) (ms' := 0) dX13_init_12 k_X13_15 rfl (by first | assumption | (simp only [kd_sI, kd_sR, kd_sA, kd_sQ, kd_sL, kd_sD, ln_sI, ln_sR, ln_sA, ln_sQ, ln_sL, ln_sD, gI_sR, gI_sA, gI_sQ, gI_sL, gI_sD, gR_sI, gR_sA, gR_sQ, gR_sL, gR_sD, gA_sI, gA_sR, gA_sQ, gA_sL, gA_sD, gQ_sI, gQ_sR, gQ_sA, gQ_sL, gQ_sD, gL_sI, gL_sR, gL_sA, gL_sQ, gL_sD]; assumption) | simp [kd_sI, kd_sR, kd_sA, kd_sQ, kd_sL, kd_sD, ln_sI, ln_sR, ln_sA, ln_sQ, ln_sL, ln_sD, gI_sR, gI_sA, gI_sQ, gI_sL, gI_sD, gR_sI, gR_sA, gR_sQ, gR_sL, gR_sD, gA_sI, gA_sR, gA_sQ, gA_sL, gA_sD, gQ_sI, gQ_sR, gQ_sA, gQ_sL, gQ_sD, gL_sI, gL_sR, gL_sA, gL_sQ, gL_sD, kd_nO, kd_nA, *]) (T := TX13) (N := 2) rfl (by first | assumption | omega) (by first | assumption | omega) (by first | assumption | omega) (Nat.le_of_ble_eq_true rfl) ?_
  refine c_nextFrom (t := 0) (by omega) hV1 hT hn hp hI1 (by omega) ?_
  show AW mX13_init G d Qr Qx _ _ H1 15 _ _
  refine r_putI dX13_init_15 fG_X13_19 (fun _ => by first | rfl | contradiction) (by first | assumption | (simp only [kd_sI, kd_sR, kd_sA, kd_sQ, kd_sL, kd_sD, ln_sI, ln_sR, ln_sA, ln_sQ, ln_sL, ln_sD, gI_sR, gI_sA, gI_sQ, gI_sL, gI_sD, gR_sI, gR_sA, gR_sQ, gR_sL, gR_sD, gA_sI, gA_sR, gA_sQ, gA_sL, gA_sD, gQ_sI, gQ_sR, gQ_sA, gQ_sL, gQ_sD, gL_sI, gL_sR, gL_sA, gL_sQ, gL_sD]; assumption) | simp [kd_sI, kd_sR, kd_sA, kd_sQ, kd_sL, kd_sD, ln_sI, ln_sR, ln_sA, ln_sQ, ln_sL, ln_sD, gI_sR, gI_sA, gI_sQ, gI_sL, gI_sD, gR_sI, gR_sA, gR_sQ, gR_sL, gR_sD, gA_sI, gA_sR, gA_sQ, gA_sL, gA_sD, gQ_sI, gQ_sR, gQ_sA, gQ_sL, gQ_sD, gL_sI, gL_sR, gL_sA, gL_sQ, gL_sD, kd_nO, kd_nA, *]) (by first | rfl | assumption) (by first | rfl | assumption) ?_
  refine r_return dX13_init_18 rfl ?_
  rw [hH1]
  exact hQ
theorem c_x12Iterator (hd : 6 ≤ d) (hV : PlV G H p L n e tr tc tf tu sp g) (hT : GT g) (hn : n = nat g 40) (hp : pl < 8) (hq : kd H q1 = 12) (h55 : gR H 55 q1 = some p) (h54 : gI H 54 q1 = nI pl) (hQ : ∀ H' it, Ks (fun _ => False) H H' → kd H it = 0 → It1 H' it q1 p pl → gI H' 56 it = nI (nxF g pl 0 n) → Qr (some (vR (some it))) H') : AMet G d 1 2 yX12_iterator wX12_iterator H [vR (some q1)] Qr Qx := by
  refine AMet.of (M := mX12_iterator) (maxL := 1) (by first | rfl | decide +kernel) rfl (Nat.le_of_ble_eq_true rfl) ?_
  show AW mX12_iterator _ _ _ _ _ _ _ 0 [some (vR (some q1))] []
  refine r_new dX12_iterator_0 cT_X13 q1946 q1153 q130 (by decide +kernel) (by first | assumption | omega) (by first | assumption | omega) (fun q0 hq0 => ?_)
  have hf : kd H q0 = 0 := hq0
  refine AW.name (fun H1 hH1 => ?_)
  have hK1 : Ks (fun _ => False) H H1 := by rw [hH1]; exact Ks.rf.nO hf
  have kq : kd H1 q0 = 13 := by rw [hH1, kd_nO, if_pos rfl]
  have eq := hK1.at (a := q1) (by rw [hq]; decide) (fun h => h)
  have hV1 := hV.ks hK1 (fun b _ e => e.elim)
  have b1 : kd H1 q1 = 12 := by rw [at_kd eq]; exact hq
  have b2 : gR H1 55 q1 = some p := by rw [at_gR eq]; exact h55
  have b3 : gI H1 54 q1 = nI pl := by rw [at_gI eq]; exact h54
  refine r_dup dX12_iterator_3 rfl ?_
  refine r_aload_n (i := 0) dX12_iterator_4 rfl rfl ?_
  refine r_callI (As := [_]) (mc' := 0) (ms' := 0) dX12_iterator_5 k_X12_19 rfl (by first | assumption | omega) (by first | assumption | omega) (by first | assumption | omega) (Nat.le_of_ble_eq_true rfl) ?_
  refine c_x13Init (by omega) hV1 hT hn hp kq b1 b2 b3 ?_
  show AW mX12_iterator G d Qr Qx _ _ _ 8 _ _
  refine r_areturn dX12_iterator_8 rfl (by first | exact Or.inl ⟨_, rfl⟩ | exact Or.inr ⟨_, rfl⟩) ?_
  have hK2 : Ks (fun _ => False) H (sI (sR H1 57 q0 (some q1)) 56 q0 (nI (nxF g pl 0 n))) := (hK1.sR (fun h => h hf)).sI (fun h => h hf)
  refine hQ _ q0 hK2 hf ⟨⟨kq, by show gR (sR H1 57 q0 (some q1)) 57 q0 = _; exact gR_sRs⟩, b1, ?_, ?_⟩ gI_sIs
  · show gR (sR H1 57 q0 (some q1)) 55 q1 = _
    rw [gR_sRn (by decide)]
    exact b2
  · rw [gI_sIn (by decide)]
    exact b3
end Iter
