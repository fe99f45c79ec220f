set_option maxRecDepth 100000
/-! A SEARCH FOR WAYS: what it holds, what an arrival does -/
def cR (P : Nat → Bool) : Nat → Nat → Nat
  | _, 0 => 0
  | t, k + 1 => (if P t then 1 else 0) + cR P (t + 1) k
theorem cR_add {P Q R : Nat → Bool} : ∀ (k t : Nat), (∀ i, t ≤ i → i < t + k → (P i = true → Q i = true → False) ∧ (P i = true ∨ Q i = true → R i = true)) → cR P t k + cR Q t k ≤ cR R t k := by
  intro k
  induction k with
  | zero => intro t _; exact Nat.le_refl _
  | succ k ih =>
    intro t h
    have h1 := ih (t + 1) (fun i a b => h i (by omega) (by omega))
    have h2 := h t (Nat.le_refl _) (by omega)
    unfold cR
    cases hp : P t <;> cases hq : Q t <;> cases hr : R t <;> simp [hp, hq, hr] at h2 ⊢ <;> omega
theorem cR_le {P : Nat → Bool} : ∀ (k t : Nat), cR P t k ≤ k := by
  intro k
  induction k with
  | zero => intro t; exact Nat.le_refl _
  | succ k ih =>
    intro t
    have := ih (t + 1)
    unfold cR
    split <;> omega
theorem cR_sub {P : Nat → Bool} : ∀ (j k t : Nat), cR P (t + j) k ≤ cR P t (j + k) := by
  intro j
  induction j with
  | zero => intro k t; rw [Nat.zero_add]; exact Nat.le_refl _
  | succ j ih =>
    intro k t
    have h1 := ih k (t + 1)
    rw [show t + 1 + j = t + (j + 1) by omega] at h1
    rw [show j + 1 + k = (j + k) + 1 by omega]
    show _ ≤ (if P t then 1 else 0) + cR P (t + 1) (j + k)
    omega
theorem two_pow_sum (k L : Nat) : 1 + k * 2 ^ L ≤ 2 ^ (k + L) := by
  induction k with
  | zero => simp; exact Nat.one_le_two_pow
  | succ k ih =>
    have h1 : 2 ^ (k + 1 + L) = 2 ^ (k + L) + 2 ^ (k + L) := by rw [show k + 1 + L = (k + L) + 1 by omega, Nat.pow_succ]; omega
    have h2 : 2 ^ L ≤ 2 ^ (k + L) := Nat.pow_le_pow_right (by decide) (by omega)
    rw [Nat.add_mul, Nat.one_mul, h1]
    omega
/-- the best way so far -/
def BsR (H : AH) (S : Nat) : Best → Prop
  | none => gR H 50 S = none ∧ gI H 52 S = nI 2147483647
  | some (r, s) => ∃ ba, gR H 50 S = some ba ∧ kd H ba = 1050 ∧ ln H ba = 12 ∧ r.length ≤ 8 ∧ gI H 51 S = nI r.length ∧ gI H 52 S = s ∧ ∀ i, i < r.length → gA H 1050 ba i = nI (r.getD i 0)
def SrR (H : AH) (S p : Nat) (ty : Option Nat) (to ra mask : Nat) (row : List Nat) (b : Best) : Prop := (kd H S = 11 ∧ gR H 53 S = some p ∧ gR H 45 S = ty ∧ gI H 46 S = nI to ∧ gR H 47 S = some ra) ∧ (kd H ra = 1047 ∧ ln H ra = 12) ∧ gI H 48 S = nI row.length ∧ gI H 49 S = nI mask ∧ (∀ i, i < row.length → gA H 1047 ra i = nI (row.getD i 0)) ∧ BsR H S b
def SS (S ra a : Nat) : Prop := a = S ∨ a = ra
section Arr
variable {G : Gl} {d : Nat} {Qr : Option AV → AH → Prop} {Qx : String → Nat → AH → Prop} {H : AH} {S p to ra mask : Nat} {ty : Option Nat} {row : List Nat} {b : Best}
theorem BsR.ks {H' : AH} {T : Nat → Prop} (h : BsR H S b) (hk : Ks T H H') (h50 : gR H' 50 S = gR H 50 S) (h51 : gI H' 51 S = gI H 51 S) (h52 : gI H' 52 S = gI H 52 S) (h3 : ∀ a, kd H a = 1050 → ¬ T a) : BsR H' S b := by
  cases b with
  | none => exact ⟨h50.trans h.1, h52.trans h.2⟩
  | some q =>
    obtain ⟨r, s⟩ := q
    obtain ⟨ba, b1, b2, b3, b4, b5, b6, b7⟩ := h
    have e := hk.at (a := ba) (by rw [b2]; decide) (h3 ba b2)
    exact ⟨ba, h50.trans b1, by rw [at_kd e]; exact b2, by rw [at_ln e]; exact b3, b4, h51.trans b5, h52.trans b6, fun i hi => by rw [at_gA e]; exact b7 i hi⟩
theorem SrR.ks {H' : AH} {T : Nat → Prop} (h : SrR H S p ty to ra mask row b) (hk : Ks T H H') (h1 : ¬ T S) (h2 : ¬ T ra) (h3 : ∀ a, kd H a = 1050 → ¬ T a) : SrR H' S p ty to ra mask row b := by
  obtain ⟨⟨a1, a2, a3, a4, a5⟩, ⟨a6, a7⟩, a8, a9, a10, a11⟩ := h
  have e1 := hk.at (a := S) (by rw [a1]; decide) h1
  have e2 := hk.at (a := ra) (by rw [a6]; decide) h2
  exact ⟨⟨by rw [at_kd e1]; exact a1, by rw [at_gR e1]; exact a2, by rw [at_gR e1]; exact a3, by rw [at_gI e1]; exact a4, by rw [at_gR e1]; exact a5⟩, ⟨by rw [at_kd e2]; exact a6, by rw [at_ln e2]; exact a7⟩, by rw [at_gI e1]; exact a8, by rw [at_gI e1]; exact a9, fun i hi => by rw [at_gA e2]; exact a10 i hi, a11.ks hk (at_gR e1 _) (at_gI e1 _) (at_gI e1 _) h3⟩
theorem c_arrive {s : Int32} {sm : Nat} (hd : 1 ≤ d) (h : SrR H S p ty to ra mask row b) (hs : s = nI sm) (hsm : sm < 100000) (hr : row.length ≤ 8) (hQ : ∀ H', Ks (SS S ra) H H' → SrR H' S p ty to ra mask row (bUp row s b) → Qr none H') : AMet G d 1 12 yX11_arrive wX11_arrive H [vR (some S), vI s] Qr Qx := by
  have h0 := h
  obtain ⟨⟨a1, a2, a3, a4, a5⟩, ⟨a6, a7⟩, a8, a9, a10, a11⟩ := h
  refine AMet.of (M := mX11_arrive) (maxL := 2) (by first | rfl | decide +kernel) rfl (Nat.le_of_ble_eq_true rfl) ?_
  show AW mX11_arrive _ _ _ _ _ _ _ 0 [some (vR (some S)), some (vI s)] []
  have fin : (∀ H', SrR H' S p ty to ra mask row (some (row, s)) → Ks (SS S ra) H H' → Qr none H') → AW mX11_arrive G d Qr Qx 1 12 H 27 [some (vR (some S)), some (vI s)] [] := by
    intro hQ
    refine r_aload_n (i := 0) dX11_arrive_27 rfl rfl ?_
    refine r_aload_n (i := 0) dX11_arrive_28 rfl rfl ?_
    refine r_getR dX11_arrive_29 fR_X11_15 (by first | assumption | (simp only [kd_sI, kd_sR, kd_sA, kd_sQ, kd_sL, kd_sD, ln_sI, ln_sR, ln_sA, ln_sQ, ln_sL, ln_sD, gI_sR, gI_sA, gI_sQ, gI_sL, gI_sD, gR_sI, gR_sA, gR_sQ, gR_sL, gR_sD, gA_sI, gA_sR, gA_sQ, gA_sL, gA_sD, gQ_sI, gQ_sR, gQ_sA, gQ_sL, gQ_sD, gL_sI, gL_sR, gL_sA, gL_sQ, gL_sD]; assumption) | simp [kd_sI, kd_sR, kd_sA, kd_sQ, kd_sL, kd_sD, ln_sI, ln_sR, ln_sA, ln_sQ, ln_sL, ln_sD, gI_sR, gI_sA, gI_sQ, gI_sL, gI_sD, gR_sI, gR_sA, gR_sQ, gR_sL, gR_sD, gA_sI, gA_sR, gA_sQ, gA_sL, gA_sD, gQ_sI, gQ_sR, gQ_sA, gQ_sL, gQ_sD, gL_sI, gL_sR, gL_sA, gL_sQ, gL_sD, kd_nO, kd_nA, *]) (by first | assumption | exact gI_sIs | exact gR_sRs | with_reducible rfl | (simp only [kd_sI, kd_sR, kd_sA, kd_sQ, kd_sL, kd_sD, ln_sI, ln_sR, ln_sA, ln_sQ, ln_sL, ln_sD, gI_sR, gI_sA, gI_sQ, gI_sL, gI_sD, gR_sI, gR_sA, gR_sQ, gR_sL, gR_sD, gA_sI, gA_sR, gA_sQ, gA_sL, gA_sD, gQ_sI, gQ_sR, gQ_sA, gQ_sL, gQ_sD, gL_sI, gL_sR, gL_sA, gL_sQ, gL_sD]; first | done | assumption | with_reducible rfl) | rfl) ?_
    refine r_clone_int 1050 dX11_arrive_32 q1912 (by first | assumption | (simp only [kd_sI, kd_sR, kd_sA, kd_sQ, kd_sL, kd_sD, ln_sI, ln_sR, ln_sA, ln_sQ, ln_sL, ln_sD, gI_sR, gI_sA, gI_sQ, gI_sL, gI_sD, gR_sI, gR_sA, gR_sQ, gR_sL, gR_sD, gA_sI, gA_sR, gA_sQ, gA_sL, gA_sD, gQ_sI, gQ_sR, gQ_sA, gQ_sL, gQ_sD, gL_sI, gL_sR, gL_sA, gL_sQ, gL_sD]; assumption) | simp [kd_sI, kd_sR, kd_sA, kd_sQ, kd_sL, kd_sD, ln_sI, ln_sR, ln_sA, ln_sQ, ln_sL, ln_sD, gI_sR, gI_sA, gI_sQ, gI_sL, gI_sD, gR_sI, gR_sA, gR_sQ, gR_sL, gR_sD, gA_sI, gA_sR, gA_sQ, gA_sL, gA_sD, gQ_sI, gQ_sR, gQ_sA, gQ_sL, gQ_sD, gL_sI, gL_sR, gL_sA, gL_sQ, gL_sD, kd_nO, kd_nA, *]) (by first | decide | assumption) (by decide) (by first | assumption | exact gI_sIs | exact gR_sRs | with_reducible rfl | (simp only [kd_sI, kd_sR, kd_sA, kd_sQ, kd_sL, kd_sD, ln_sI, ln_sR, ln_sA, ln_sQ, ln_sL, ln_sD, gI_sR, gI_sA, gI_sQ, gI_sL, gI_sD, gR_sI, gR_sA, gR_sQ, gR_sL, gR_sD, gA_sI, gA_sR, gA_sQ, gA_sL, gA_sD, gQ_sI, gQ_sR, gQ_sA, gQ_sL, gQ_sD, gL_sI, gL_sR, gL_sA, gL_sQ, gL_sD]; first | done | assumption | with_reducible rfl) | rfl) (by first | assumption | omega) (by first | assumption | omega) (by first | assumption | omega) (Nat.le_of_ble_eq_true rfl) (fun q32 hq32 => ?_)
    have hq : kd H q32 = 0 := hq32
    have nS : ¬ S = q32 := fun e => by rw [e, hq] at a1; exact absurd a1 (by decide)
    have nra : ¬ ra = q32 := fun e => by rw [e, hq] at a6; exact absurd a6 (by decide)
    refine AW.name (fun H1 hH1 => ?_)
    have hK1 : Ks (SS S ra) H H1 := by
      rw [hH1]
      exact (Ks.rf.nA hq).sA (fun k => absurd hq k)
    have kq : kd H1 q32 = 1050 := by rw [hH1]; show kd (nA H q32 1050 12) q32 = 1050; rw [kd_nA, if_pos rfl]
    have lq : ln H1 q32 = 12 := by rw [hH1]; show ln (nA H q32 1050 12) q32 = 12; rw [ln_nA, if_pos rfl]
    have h1 := h0.ks (T := fun _ => False) (H' := H1) (by rw [hH1]; exact (Ks.rf.nA hq).sA (fun k => absurd hq k)) (fun h => h) (fun h => h) (fun _ _ h => h)
    obtain ⟨⟨b1, b2, b3, b4, b5⟩, ⟨b6, b7⟩, b8, b9, b10, b11⟩ := h1
    have gq : ∀ i, i < row.length → gA H1 1050 q32 i = nI (row.getD i 0) := by
      intro i hi
      rw [hH1]
      rw [gA_sAs]
      exact a10 i hi
    refine r_cast_int dX11_arrive_35 q1916 (by first | assumption | (simp only [kd_sI, kd_sR, kd_sA, kd_sQ, kd_sL, kd_sD, ln_sI, ln_sR, ln_sA, ln_sQ, ln_sL, ln_sD, gI_sR, gI_sA, gI_sQ, gI_sL, gI_sD, gR_sI, gR_sA, gR_sQ, gR_sL, gR_sD, gA_sI, gA_sR, gA_sQ, gA_sL, gA_sD, gQ_sI, gQ_sR, gQ_sA, gQ_sL, gQ_sD, gL_sI, gL_sR, gL_sA, gL_sQ, gL_sD]; assumption) | simp [kd_sI, kd_sR, kd_sA, kd_sQ, kd_sL, kd_sD, ln_sI, ln_sR, ln_sA, ln_sQ, ln_sL, ln_sD, gI_sR, gI_sA, gI_sQ, gI_sL, gI_sD, gR_sI, gR_sA, gR_sQ, gR_sL, gR_sD, gA_sI, gA_sR, gA_sQ, gA_sL, gA_sD, gQ_sI, gQ_sR, gQ_sA, gQ_sL, gQ_sD, gL_sI, gL_sR, gL_sA, gL_sQ, gL_sD, kd_nO, kd_nA, *]) (by first | decide | assumption) ?_
    refine r_putR dX11_arrive_38 fG_X11_40 (fun _ => by first | rfl | contradiction) (by first | assumption | (simp only [kd_sI, kd_sR, kd_sA, kd_sQ, kd_sL, kd_sD, ln_sI, ln_sR, ln_sA, ln_sQ, ln_sL, ln_sD, gI_sR, gI_sA, gI_sQ, gI_sL, gI_sD, gR_sI, gR_sA, gR_sQ, gR_sL, gR_sD, gA_sI, gA_sR, gA_sQ, gA_sL, gA_sD, gQ_sI, gQ_sR, gQ_sA, gQ_sL, gQ_sD, gL_sI, gL_sR, gL_sA, gL_sQ, gL_sD]; assumption) | simp [kd_sI, kd_sR, kd_sA, kd_sQ, kd_sL, kd_sD, ln_sI, ln_sR, ln_sA, ln_sQ, ln_sL, ln_sD, gI_sR, gI_sA, gI_sQ, gI_sL, gI_sD, gR_sI, gR_sA, gR_sQ, gR_sL, gR_sD, gA_sI, gA_sR, gA_sQ, gA_sL, gA_sD, gQ_sI, gQ_sR, gQ_sA, gQ_sL, gQ_sD, gL_sI, gL_sR, gL_sA, gL_sQ, gL_sD, kd_nO, kd_nA, *]) (by first | exact Or.inl ⟨_, rfl⟩ | exact Or.inr ⟨_, rfl⟩) ?_
    refine r_aload_n (i := 0) dX11_arrive_41 rfl rfl ?_
    refine r_aload_n (i := 0) dX11_arrive_42 rfl rfl ?_
    refine r_getI dX11_arrive_43 fR_X11_43 (by first | assumption | (simp only [kd_sI, kd_sR, kd_sA, kd_sQ, kd_sL, kd_sD, ln_sI, ln_sR, ln_sA, ln_sQ, ln_sL, ln_sD, gI_sR, gI_sA, gI_sQ, gI_sL, gI_sD, gR_sI, gR_sA, gR_sQ, gR_sL, gR_sD, gA_sI, gA_sR, gA_sQ, gA_sL, gA_sD, gQ_sI, gQ_sR, gQ_sA, gQ_sL, gQ_sD, gL_sI, gL_sR, gL_sA, gL_sQ, gL_sD]; assumption) | simp [kd_sI, kd_sR, kd_sA, kd_sQ, kd_sL, kd_sD, ln_sI, ln_sR, ln_sA, ln_sQ, ln_sL, ln_sD, gI_sR, gI_sA, gI_sQ, gI_sL, gI_sD, gR_sI, gR_sA, gR_sQ, gR_sL, gR_sD, gA_sI, gA_sR, gA_sQ, gA_sL, gA_sD, gQ_sI, gQ_sR, gQ_sA, gQ_sL, gQ_sD, gL_sI, gL_sR, gL_sA, gL_sQ, gL_sD, kd_nO, kd_nA, *]) (by first | assumption | exact gI_sIs | exact gR_sRs | with_reducible rfl | (simp only [kd_sI, kd_sR, kd_sA, kd_sQ, kd_sL, kd_sD, ln_sI, ln_sR, ln_sA, ln_sQ, ln_sL, ln_sD, gI_sR, gI_sA, gI_sQ, gI_sL, gI_sD, gR_sI, gR_sA, gR_sQ, gR_sL, gR_sD, gA_sI, gA_sR, gA_sQ, gA_sL, gA_sD, gQ_sI, gQ_sR, gQ_sA, gQ_sL, gQ_sD, gL_sI, gL_sR, gL_sA, gL_sQ, gL_sD]; first | done | assumption | with_reducible rfl) | rfl) ?_
    refine r_putI dX11_arrive_46 fG_X11_46 (fun _ => by first | rfl | contradiction) (by first | assumption | (simp only [kd_sI, kd_sR, kd_sA, kd_sQ, kd_sL, kd_sD, ln_sI, ln_sR, ln_sA, ln_sQ, ln_sL, ln_sD, gI_sR, gI_sA, gI_sQ, gI_sL, gI_sD, gR_sI, gR_sA, gR_sQ, gR_sL, gR_sD, gA_sI, gA_sR, gA_sQ, gA_sL, gA_sD, gQ_sI, gQ_sR, gQ_sA, gQ_sL, gQ_sD, gL_sI, gL_sR, gL_sA, gL_sQ, gL_sD]; assumption) | simp [kd_sI, kd_sR, kd_sA, kd_sQ, kd_sL, kd_sD, ln_sI, ln_sR, ln_sA, ln_sQ, ln_sL, ln_sD, gI_sR, gI_sA, gI_sQ, gI_sL, gI_sD, gR_sI, gR_sA, gR_sQ, gR_sL, gR_sD, gA_sI, gA_sR, gA_sQ, gA_sL, gA_sD, gQ_sI, gQ_sR, gQ_sA, gQ_sL, gQ_sD, gL_sI, gL_sR, gL_sA, gL_sQ, gL_sD, kd_nO, kd_nA, *]) (by first | rfl | assumption) (by first | rfl | assumption) ?_
    refine r_aload_n (i := 0) dX11_arrive_49 rfl rfl ?_
    refine r_iload_n (i := 1) dX11_arrive_50 rfl rfl ?_
    refine r_putI dX11_arrive_51 fG_X11_22 (fun _ => by first | rfl | contradiction) (by first | assumption | (simp only [kd_sI, kd_sR, kd_sA, kd_sQ, kd_sL, kd_sD, ln_sI, ln_sR, ln_sA, ln_sQ, ln_sL, ln_sD, gI_sR, gI_sA, gI_sQ, gI_sL, gI_sD, gR_sI, gR_sA, gR_sQ, gR_sL, gR_sD, gA_sI, gA_sR, gA_sQ, gA_sL, gA_sD, gQ_sI, gQ_sR, gQ_sA, gQ_sL, gQ_sD, gL_sI, gL_sR, gL_sA, gL_sQ, gL_sD]; assumption) | simp [kd_sI, kd_sR, kd_sA, kd_sQ, kd_sL, kd_sD, ln_sI, ln_sR, ln_sA, ln_sQ, ln_sL, ln_sD, gI_sR, gI_sA, gI_sQ, gI_sL, gI_sD, gR_sI, gR_sA, gR_sQ, gR_sL, gR_sD, gA_sI, gA_sR, gA_sQ, gA_sL, gA_sD, gQ_sI, gQ_sR, gQ_sA, gQ_sL, gQ_sD, gL_sI, gL_sR, gL_sA, gL_sQ, gL_sD, kd_nO, kd_nA, *]) (by first | rfl | assumption) (by first | rfl | assumption) ?_
    refine r_return dX11_arrive_54 rfl ?_
    have hK2 : Ks (SS S ra) H (sI (sI (sR H1 50 S (some q32)) 51 S (nI row.length)) 52 S s) := ((hK1.sR (fun _ => Or.inl rfl)).sI (fun _ => Or.inl rfl)).sI (fun _ => Or.inl rfl)
    refine hQ _ ⟨⟨b1, ?_, ?_, ?_, ?_⟩, ⟨b6, b7⟩, ?_, ?_, b10, ⟨q32, ?_, kq, lq, hr, ?_, gI_sIs, gq⟩⟩ hK2
    · show gR (sR H1 50 S (some q32)) 53 S = _
      rw [gR_sRn (by decide)]
      exact b2
    · show gR (sR H1 50 S (some q32)) 45 S = _
      rw [gR_sRn (by decide)]
      exact b3
    · rw [gI_sIn (by decide), gI_sIn (by decide)]
      exact b4
    · show gR (sR H1 50 S (some q32)) 47 S = _
      rw [gR_sRn (by decide)]
      exact b5
    · rw [gI_sIn (by decide), gI_sIn (by decide)]
      exact b8
    · rw [gI_sIn (by decide), gI_sIn (by decide)]
      exact b9
    · show gR (sR H1 50 S (some q32)) 50 S = _
      exact gR_sRs
    · rw [gI_sIn (by decide), gI_sIs]
  cases b with
  | none =>
    obtain ⟨c1, c2⟩ := a11
    have hlt : s < nI 2147483647 := by rw [hs]; exact nI_lt (by omega) (by omega)
    refine r_iload_n (i := 1) dX11_arrive_0 rfl rfl ?_
    refine r_aload_n (i := 0) dX11_arrive_1 rfl rfl ?_
    refine r_getI dX11_arrive_2 fR_X11_22 (by first | assumption | (simp only [kd_sI, kd_sR, kd_sA, kd_sQ, kd_sL, kd_sD, ln_sI, ln_sR, ln_sA, ln_sQ, ln_sL, ln_sD, gI_sR, gI_sA, gI_sQ, gI_sL, gI_sD, gR_sI, gR_sA, gR_sQ, gR_sL, gR_sD, gA_sI, gA_sR, gA_sQ, gA_sL, gA_sD, gQ_sI, gQ_sR, gQ_sA, gQ_sL, gQ_sD, gL_sI, gL_sR, gL_sA, gL_sQ, gL_sD]; assumption) | simp [kd_sI, kd_sR, kd_sA, kd_sQ, kd_sL, kd_sD, ln_sI, ln_sR, ln_sA, ln_sQ, ln_sL, ln_sD, gI_sR, gI_sA, gI_sQ, gI_sL, gI_sD, gR_sI, gR_sA, gR_sQ, gR_sL, gR_sD, gA_sI, gA_sR, gA_sQ, gA_sL, gA_sD, gQ_sI, gQ_sR, gQ_sA, gQ_sL, gQ_sD, gL_sI, gL_sR, gL_sA, gL_sQ, gL_sD, kd_nO, kd_nA, *]) (by first | assumption | exact gI_sIs | exact gR_sRs | with_reducible rfl | (simp only [kd_sI, kd_sR, kd_sA, kd_sQ, kd_sL, kd_sD, ln_sI, ln_sR, ln_sA, ln_sQ, ln_sL, ln_sD, gI_sR, gI_sA, gI_sQ, gI_sL, gI_sD, gR_sI, gR_sA, gR_sQ, gR_sL, gR_sD, gA_sI, gA_sR, gA_sQ, gA_sL, gA_sD, gQ_sI, gQ_sR, gQ_sA, gQ_sL, gQ_sD, gL_sI, gL_sR, gL_sA, gL_sQ, gL_sD]; first | done | assumption | with_reducible rfl) | rfl) ?_
    refine r_icmp_lt (tgt := 27) dX11_arrive_5 (by decide) (fun h5 => ?_) (fun h5 => ?_)
    · exact fin (fun H' h k => hQ H' k h)
    · exact absurd hlt h5
  | some q =>
    obtain ⟨r, s0⟩ := q
    obtain ⟨ba, c1, c2, c3, c4, c5, c6, c7⟩ := a11
    refine r_iload_n (i := 1) dX11_arrive_0 rfl rfl ?_
    refine r_aload_n (i := 0) dX11_arrive_1 rfl rfl ?_
    refine r_getI dX11_arrive_2 fR_X11_22 (by first | assumption | (simp only [kd_sI, kd_sR, kd_sA, kd_sQ, kd_sL, kd_sD, ln_sI, ln_sR, ln_sA, ln_sQ, ln_sL, ln_sD, gI_sR, gI_sA, gI_sQ, gI_sL, gI_sD, gR_sI, gR_sA, gR_sQ, gR_sL, gR_sD, gA_sI, gA_sR, gA_sQ, gA_sL, gA_sD, gQ_sI, gQ_sR, gQ_sA, gQ_sL, gQ_sD, gL_sI, gL_sR, gL_sA, gL_sQ, gL_sD]; assumption) | simp [kd_sI, kd_sR, kd_sA, kd_sQ, kd_sL, kd_sD, ln_sI, ln_sR, ln_sA, ln_sQ, ln_sL, ln_sD, gI_sR, gI_sA, gI_sQ, gI_sL, gI_sD, gR_sI, gR_sA, gR_sQ, gR_sL, gR_sD, gA_sI, gA_sR, gA_sQ, gA_sL, gA_sD, gQ_sI, gQ_sR, gQ_sA, gQ_sL, gQ_sD, gL_sI, gL_sR, gL_sA, gL_sQ, gL_sD, kd_nO, kd_nA, *]) (by first | assumption | exact gI_sIs | exact gR_sRs | with_reducible rfl | (simp only [kd_sI, kd_sR, kd_sA, kd_sQ, kd_sL, kd_sD, ln_sI, ln_sR, ln_sA, ln_sQ, ln_sL, ln_sD, gI_sR, gI_sA, gI_sQ, gI_sL, gI_sD, gR_sI, gR_sA, gR_sQ, gR_sL, gR_sD, gA_sI, gA_sR, gA_sQ, gA_sL, gA_sD, gQ_sI, gQ_sR, gQ_sA, gQ_sL, gQ_sD, gL_sI, gL_sR, gL_sA, gL_sQ, gL_sD]; first | done | assumption | with_reducible rfl) | rfl) ?_
    refine r_icmp_lt (tgt := 27) dX11_arrive_5 (by decide) (fun h5 => ?_) (fun h5 => ?_)
    · refine fin (fun H' h k => hQ H' k ?_)
      unfold bUp
      dsimp only
      rw [if_pos (Or.inl h5)]
      exact h
    · refine r_iload_n (i := 1) dX11_arrive_8 rfl rfl ?_
      refine r_aload_n (i := 0) dX11_arrive_9 rfl rfl ?_
      refine r_getI dX11_arrive_10 fR_X11_22 (by first | assumption | (simp only [kd_sI, kd_sR, kd_sA, kd_sQ, kd_sL, kd_sD, ln_sI, ln_sR, ln_sA, ln_sQ, ln_sL, ln_sD, gI_sR, gI_sA, gI_sQ, gI_sL, gI_sD, gR_sI, gR_sA, gR_sQ, gR_sL, gR_sD, gA_sI, gA_sR, gA_sQ, gA_sL, gA_sD, gQ_sI, gQ_sR, gQ_sA, gQ_sL, gQ_sD, gL_sI, gL_sR, gL_sA, gL_sQ, gL_sD]; assumption) | simp [kd_sI, kd_sR, kd_sA, kd_sQ, kd_sL, kd_sD, ln_sI, ln_sR, ln_sA, ln_sQ, ln_sL, ln_sD, gI_sR, gI_sA, gI_sQ, gI_sL, gI_sD, gR_sI, gR_sA, gR_sQ, gR_sL, gR_sD, gA_sI, gA_sR, gA_sQ, gA_sL, gA_sD, gQ_sI, gQ_sR, gQ_sA, gQ_sL, gQ_sD, gL_sI, gL_sR, gL_sA, gL_sQ, gL_sD, kd_nO, kd_nA, *]) (by first | assumption | exact gI_sIs | exact gR_sRs | with_reducible rfl | (simp only [kd_sI, kd_sR, kd_sA, kd_sQ, kd_sL, kd_sD, ln_sI, ln_sR, ln_sA, ln_sQ, ln_sL, ln_sD, gI_sR, gI_sA, gI_sQ, gI_sL, gI_sD, gR_sI, gR_sA, gR_sQ, gR_sL, gR_sD, gA_sI, gA_sR, gA_sQ, gA_sL, gA_sD, gQ_sI, gQ_sR, gQ_sA, gQ_sL, gQ_sD, gL_sI, gL_sR, gL_sA, gL_sQ, gL_sD]; first | done | assumption | with_reducible rfl) | rfl) ?_
      refine r_icmp_ne (tgt := 54) dX11_arrive_13 (by decide) (fun h13 => ?_) (fun h13 => ?_)
      · refine r_return dX11_arrive_54 rfl ?_
        refine hQ H Ks.rf ?_
        unfold bUp
        dsimp only
        rw [if_neg (fun q => q.elim (fun k => h5 k) (fun k => h13 k.1))]
        exact h0
      · have e13 : s = s0 := by simpa using h13
        refine r_aload_n (i := 0) dX11_arrive_16 rfl rfl ?_
        refine r_getI dX11_arrive_17 fR_X11_43 (by first | assumption | (simp only [kd_sI, kd_sR, kd_sA, kd_sQ, kd_sL, kd_sD, ln_sI, ln_sR, ln_sA, ln_sQ, ln_sL, ln_sD, gI_sR, gI_sA, gI_sQ, gI_sL, gI_sD, gR_sI, gR_sA, gR_sQ, gR_sL, gR_sD, gA_sI, gA_sR, gA_sQ, gA_sL, gA_sD, gQ_sI, gQ_sR, gQ_sA, gQ_sL, gQ_sD, gL_sI, gL_sR, gL_sA, gL_sQ, gL_sD]; assumption) | simp [kd_sI, kd_sR, kd_sA, kd_sQ, kd_sL, kd_sD, ln_sI, ln_sR, ln_sA, ln_sQ, ln_sL, ln_sD, gI_sR, gI_sA, gI_sQ, gI_sL, gI_sD, gR_sI, gR_sA, gR_sQ, gR_sL, gR_sD, gA_sI, gA_sR, gA_sQ, gA_sL, gA_sD, gQ_sI, gQ_sR, gQ_sA, gQ_sL, gQ_sD, gL_sI, gL_sR, gL_sA, gL_sQ, gL_sD, kd_nO, kd_nA, *]) (by first | assumption | exact gI_sIs | exact gR_sRs | with_reducible rfl | (simp only [kd_sI, kd_sR, kd_sA, kd_sQ, kd_sL, kd_sD, ln_sI, ln_sR, ln_sA, ln_sQ, ln_sL, ln_sD, gI_sR, gI_sA, gI_sQ, gI_sL, gI_sD, gR_sI, gR_sA, gR_sQ, gR_sL, gR_sD, gA_sI, gA_sR, gA_sQ, gA_sL, gA_sD, gQ_sI, gQ_sR, gQ_sA, gQ_sL, gQ_sD, gL_sI, gL_sR, gL_sA, gL_sQ, gL_sD]; first | done | assumption | with_reducible rfl) | rfl) ?_
        refine r_aload_n (i := 0) dX11_arrive_20 rfl rfl ?_
        refine r_getI dX11_arrive_21 fR_X11_46 (by first | assumption | (simp only [kd_sI, kd_sR, kd_sA, kd_sQ, kd_sL, kd_sD, ln_sI, ln_sR, ln_sA, ln_sQ, ln_sL, ln_sD, gI_sR, gI_sA, gI_sQ, gI_sL, gI_sD, gR_sI, gR_sA, gR_sQ, gR_sL, gR_sD, gA_sI, gA_sR, gA_sQ, gA_sL, gA_sD, gQ_sI, gQ_sR, gQ_sA, gQ_sL, gQ_sD, gL_sI, gL_sR, gL_sA, gL_sQ, gL_sD]; assumption) | simp [kd_sI, kd_sR, kd_sA, kd_sQ, kd_sL, kd_sD, ln_sI, ln_sR, ln_sA, ln_sQ, ln_sL, ln_sD, gI_sR, gI_sA, gI_sQ, gI_sL, gI_sD, gR_sI, gR_sA, gR_sQ, gR_sL, gR_sD, gA_sI, gA_sR, gA_sQ, gA_sL, gA_sD, gQ_sI, gQ_sR, gQ_sA, gQ_sL, gQ_sD, gL_sI, gL_sR, gL_sA, gL_sQ, gL_sD, kd_nO, kd_nA, *]) (by first | assumption | exact gI_sIs | exact gR_sRs | with_reducible rfl | (simp only [kd_sI, kd_sR, kd_sA, kd_sQ, kd_sL, kd_sD, ln_sI, ln_sR, ln_sA, ln_sQ, ln_sL, ln_sD, gI_sR, gI_sA, gI_sQ, gI_sL, gI_sD, gR_sI, gR_sA, gR_sQ, gR_sL, gR_sD, gA_sI, gA_sR, gA_sQ, gA_sL, gA_sD, gQ_sI, gQ_sR, gQ_sA, gQ_sL, gQ_sD, gL_sI, gL_sR, gL_sA, gL_sQ, gL_sD]; first | done | assumption | with_reducible rfl) | rfl) ?_
        refine r_icmp_ge (tgt := 54) dX11_arrive_24 (by decide) (fun h24 => ?_) (fun h24 => ?_)
        · refine r_return dX11_arrive_54 rfl ?_
          refine hQ H Ks.rf ?_
          have := (nI_leI (by omega) (by omega)).mp h24
          unfold bUp
          dsimp only
          rw [if_neg (fun q => q.elim (fun k => h5 k) (fun k => by omega))]
          exact h0
        · refine fin (fun H' h k => hQ H' k ?_)
          have hl : row.length < r.length := by
            rcases Nat.lt_or_ge row.length r.length with q | q
            · exact q
            · exact absurd (nI_le q (by omega)) h24
          unfold bUp
          dsimp only
          rw [if_pos (Or.inr ⟨e13, hl⟩)]
          exact h
/-- the room that a place needs -/
def kP (g : Nat → Int32) (mask pl t : Nat) : Bool := match ed g t pl with
  | some o => !mask.testBit o
  | none => false
def lP (g : Nat → Int32) (mask t : Nat) : Bool := !mask.testBit (nat g (41 + 5 * t)) && !mask.testBit (nat g (42 + 5 * t))
theorem room_child {g : Nat → Int32} {mask o n : Nat} (hT : GT g) (hn : n = nat g 40) (hm : mask < 256) (ho : o < 8) (hb : mask.testBit o = false) : cR (kP g (mask ||| 2 ^ o) o) 0 n + cR (lP g (mask ||| 2 ^ o)) 0 n ≤ cR (lP g mask) 0 n := by
  refine cR_add n 0 (fun i _ hi => ?_)
  obtain ⟨⟨a1, a2⟩, ⟨b1, b2⟩, hne⟩ := hT i (by omega)
  obtain ⟨-, -, -, -, hbo⟩ := bm_all mask hm o ho
  have oth := bm_oth mask hm o ho
  have mono : ∀ q, q < 8 → (mask ||| 2 ^ o).testBit q = false → mask.testBit q = false ∧ q ≠ o := by
    intro q hq h
    by_cases e : q = o
    · rw [e, hbo] at h
      cases h
    · rw [oth q hq e] at h
      exact ⟨h, e⟩
  have hk : kP g (mask ||| 2 ^ o) o i = true → (nat g (41 + 5 * i) = o ∧ mask.testBit (nat g (42 + 5 * i)) = false) ∨ (nat g (42 + 5 * i) = o ∧ mask.testBit (nat g (41 + 5 * i)) = false) := by
    intro h
    unfold kP ed at h
    by_cases h1 : nat g (41 + 5 * i) = o
    · rw [if_pos h1] at h
      simp only [Bool.not_eq_true'] at h
      exact Or.inl ⟨h1, (mono _ b2 h).1⟩
    · rw [if_neg h1] at h
      by_cases h2 : nat g (42 + 5 * i) = o
      · rw [if_pos h2] at h
        simp only [Bool.not_eq_true'] at h
        exact Or.inr ⟨h2, (mono _ a2 h).1⟩
      · rw [if_neg h2] at h
        cases h
  have hl : lP g (mask ||| 2 ^ o) i = true → (mask.testBit (nat g (41 + 5 * i)) = false ∧ nat g (41 + 5 * i) ≠ o) ∧ mask.testBit (nat g (42 + 5 * i)) = false ∧ nat g (42 + 5 * i) ≠ o := by
    intro h
    unfold lP at h
    simp only [Bool.and_eq_true, Bool.not_eq_true'] at h
    exact ⟨mono _ a2 h.1, mono _ b2 h.2⟩
  refine ⟨fun h1 h2 => ?_, fun h => ?_⟩
  · have := hl h2
    rcases hk h1 with q | q
    · exact this.1.2 q.1
    · exact this.2.2 q.1
  · unfold lP
    simp only [Bool.and_eq_true, Bool.not_eq_true']
    rcases h with h | h
    · rcases hk h with q | q
      · rw [q.1]
        exact ⟨hb, q.2⟩
      · rw [q.1]
        exact ⟨q.2, hb⟩
    · have := hl h
      exact ⟨this.1.1, this.2.1⟩
theorem room_all {g : Nat → Int32} {pl n : Nat} (hT : GT g) (hn : n = nat g 40) (hp : pl < 8) : cR (kP g (2 ^ pl) pl) 0 n + cR (lP g (2 ^ pl)) 0 n ≤ n := by
  obtain ⟨-, -, -, hb, hb2⟩ := bm_1 pl hp
  refine Nat.le_trans (cR_add (R := fun _ => true) n 0 (fun i _ hi => ⟨fun h1 h2 => ?_, fun _ => rfl⟩)) (cR_le n 0)
  unfold kP ed at h1
  unfold lP at h2
  simp only [Bool.and_eq_true, Bool.not_eq_true'] at h2
  by_cases e1 : nat g (41 + 5 * i) = pl
  · rw [e1, hb] at h2
    cases h2.1
  · rw [if_neg e1] at h1
    by_cases e2 : nat g (42 + 5 * i) = pl
    · rw [e2, hb] at h2
      cases h2.2
    · rw [if_neg e2] at h1
      cases h1
end Arr
