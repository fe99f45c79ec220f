set_option maxRecDepth 100000
/-! THE FEWEST DRUMS -/
theorem nI_div {a b : Nat} (ha : a < 2 ^ 31) (hb : b < 2 ^ 31) : nI a / nI b = nI (a / b) := by
  apply Int32.toInt_inj.mp
  have h1 : a / b ≤ a := Nat.div_le_self a b
  rw [Int32.toInt_div, nI_toInt ha, nI_toInt hb, nI_toInt (by omega)]
  have e : Int.tdiv (a : Int) (b : Int) = ((a / b : Nat) : Int) := by
    rw [Int.tdiv_eq_ediv_of_nonneg (by omega)]
    exact (Int.natCast_ediv a b).symm
  rw [e]
  generalize a / b = x at *
  exact Int.bmod_eq_of_le (by omega) (by omega)
theorem nx_clr {s k : Nat} (h : s.testBit k = true) : nI s &&& (nI (2 ^ k) ^^^ (-1)) = nI (s ^^^ 2 ^ k) := by
  apply Int32.toBitVec_inj.1
  show BitVec.ofNat 32 s &&& (BitVec.ofNat 32 (2 ^ k) ^^^ BitVec.allOnes 32) = BitVec.ofNat 32 (s ^^^ 2 ^ k)
  apply BitVec.eq_of_getLsbD_eq
  intro i hi
  simp only [BitVec.getLsbD_and, BitVec.getLsbD_xor, BitVec.getLsbD_ofNat, BitVec.getLsbD_allOnes, hi, decide_true, Bool.true_and, Nat.testBit_xor, Nat.testBit_two_pow]
  by_cases e : k = i
  · subst e
    simp [h]
  · simp [e]
theorem sm_k : ∀ k, k < 31 → ((nI k &&& 31).toBitVec.smod 32#32).toNat = k := by decide +kernel
theorem nx_bit {s k : Nat} (hk : k < 31) : (nI s >>> (nI k &&& 31)) &&& nI 1 = if s.testBit k then nI 1 else nI 0 := by
  have e : ((nI s >>> (nI k &&& 31)) &&& nI 1).toBitVec = ((BitVec.ofNat 32 s).sshiftRight k) &&& 1#32 := by
    show ((BitVec.ofNat 32 s).sshiftRight ((nI k &&& 31).toBitVec.smod 32#32).toNat) &&& 1#32 = _
    rw [sm_k k hk]
  apply Int32.toBitVec_inj.1
  rw [e]
  apply BitVec.eq_of_getLsbD_eq
  intro i hi
  rw [BitVec.getLsbD_and, BitVec.getLsbD_sshiftRight]
  by_cases h0 : i = 0
  · subst h0
    have : (BitVec.ofNat 32 s).getLsbD (k + 0) = s.testBit k := by
      rw [BitVec.getLsbD_ofNat, Nat.add_zero, decide_eq_true (show k < 32 by omega), Bool.true_and]
    rw [if_pos (by omega), this]
    cases s.testBit k <;> simp <;> rfl
  · have h1 : (1#32).getLsbD i = false := by simp [h0]
    rw [h1, Bool.and_false]
    cases s.testBit k
    · show false = (BitVec.ofNat 32 0).getLsbD i
      simp
    · show false = (BitVec.ofNat 32 1).getLsbD i
      simp [h0]
/-- behind, as the loop goes -/
def bh (rs : List Nat) (len : Nat) : Nat → Nat → Nat → Nat
  | 0, dd, _ => 10000 * dd
  | k + 1, dd, u => if u + len ≤ rs.getD dd 0 then 10000 * dd + (u + len) else bh rs len k (dd + 1) 0
theorem bh_far {rs : List Nat} {len : Nat} : ∀ k dd, dd + k = rs.length → (∀ j, dd ≤ j → j < rs.length → rs.getD j 0 < len) → bh rs len k dd 0 = 10000 * rs.length := by
  intro k
  induction k with
  | zero =>
    intro dd h _
    show 10000 * dd = _
    rw [show dd = rs.length by omega]
  | succ k ih =>
    intro dd h hj
    show (if 0 + len ≤ rs.getD dd 0 then _ else bh rs len k (dd + 1) 0) = _
    have := hj dd (by omega) (by omega)
    rw [if_neg (by omega)]
    exact ih (dd + 1) (by omega) (fun j h1 h2 => hj j (by omega) h2)
theorem desc_at {rs : List Nat} (h : desc rs) {i j : Nat} (hij : i < j) (hj : j < rs.length) : rs.getD j 0 ≤ rs.getD i 0 := by
  have := (List.pairwise_iff_getElem.mp h) i j (by omega) hj hij
  simpa [List.getD, hj, show i < rs.length by omega] using this
theorem bh_eq {rs : List Nat} {len v : Nat} (hdesc : desc rs) (hv : v / 10000 ≤ rs.length) : bh rs len (rs.length - v / 10000) (v / 10000) (v % 10000) = behF rs v len := by
  unfold behF
  obtain ⟨dd, hdd⟩ : ∃ dd, v / 10000 = dd := ⟨_, rfl⟩
  rw [hdd] at hv ⊢
  by_cases h : dd < rs.length
  · rw [if_pos h, show rs.length - dd = (rs.length - dd - 1) + 1 by omega]
    show (if v % 10000 + len ≤ rs.getD dd 0 then _ else bh rs len (rs.length - dd - 1) (dd + 1) 0) = _
    by_cases h1 : v % 10000 + len ≤ rs.getD dd 0
    · rw [if_pos h1, if_pos h1]
    · rw [if_neg h1, if_neg h1]
      by_cases h2 : dd + 1 < rs.length
      · rw [show rs.length - dd - 1 = (rs.length - dd - 2) + 1 by omega]
        show (if 0 + len ≤ rs.getD (dd + 1) 0 then 10000 * (dd + 1) + (0 + len) else bh rs len (rs.length - dd - 2) (dd + 1 + 1) 0) = _
        by_cases h3 : len ≤ rs.getD (dd + 1) 0
        · rw [if_pos (by omega), if_pos ⟨h2, h3⟩, Nat.zero_add]
        · rw [if_neg (by omega), if_neg (fun q => h3 q.2)]
          refine bh_far _ _ (by omega) (fun j q1 q2 => ?_)
          have := desc_at hdesc (i := dd + 1) (j := j) (by omega) q2
          omega
      · rw [if_neg (fun q => h2 q.1), show rs.length - dd - 1 = 0 by omega]
        show 10000 * (dd + 1) = _
        rw [show dd + 1 = rs.length by omega]
  · rw [if_neg h, show rs.length - dd = 0 by omega]
    show 10000 * dd = _
    rw [show dd = rs.length by omega]
section Few
variable {G : Gl} {d : Nat} {Qr : Option AV → AH → Prop} {Qx : String → Nat → AH → Prop} {H : AH} {O : Nat → Nat} {p t : Nat} {A : PA} {g : Nat → Int32} {eT eR eC eD : Nat} {ty nm nd tr tc tf tu ca rl re dr : Nat → Nat} {st : Nat → Nat → Nat}
theorem pl_behind {L e v len : Nat} {xs : Nat → Nat} {rs : List Nat} (hd : 3 ≤ d) (h : IL G H L e xs rs) (hdesc : desc rs) (hrs : rs.length ≤ 10) (hlt : ∀ x, x ∈ rs → x < 1000) (hv : v ≤ 10000 * rs.length) (hlen : len < 1000) (hQ : Qr (some (vI (nI (behF rs v len)))) H) : AMet G d 0 0 yX2_behind wX2_behind H [vI (nI v), vI (nI len), vR (some L)] Qr Qx := by
  rw [← bh_eq hdesc (by omega)] at hQ
  have kL := h.1.1
  have hdv : nI v / nI 10000 = nI (v / 10000) := nI_div (by omega) (by decide)
  have hmv : nI v - nI (v / 10000) * nI 10000 = nI (v % 10000) := by
    rw [pk_mul, pk_sub (by omega)]
    congr 1
    omega
  refine AMet.of (M := mX2_behind) (maxL := 5) (by first | rfl | decide +kernel) rfl (Nat.le_of_ble_eq_true rfl) ?_
  show AW mX2_behind _ _ _ _ _ _ _ 0 [some (vI (nI v)), some (vI (nI len)), some (vR (some L)), none, none] []
  refine r_iload_n (i := 0) dX2_behind_0 rfl rfl ?_
  refine r_sipush (v := nI 10000) dX2_behind_1 (by decide) ?_
  refine r_idiv dX2_behind_4 ?_ ?_
  · decide
  · rw [hdv]
    refine r_istore_n (i := 3) dX2_behind_5 rfl (Nat.le_of_ble_eq_true rfl) (by simp only [lset]; rfl) ?_
    refine r_iload_n (i := 0) dX2_behind_6 rfl rfl ?_
    refine r_sipush (v := nI 10000) dX2_behind_7 (by decide) ?_
    refine r_irem dX2_behind_10 ?_ ?_
    · decide
    · rw [hdv, hmv]
      refine r_istore dX2_behind_11 (Nat.le_of_ble_eq_true rfl) (by simp only [lset]; rfl) ?_
      have loop : ∀ (k dd u : Nat), dd + k = rs.length → u < 10000 → Qr (some (vI (nI (bh rs len k dd u)))) H → AW mX2_behind G d Qr Qx 0 0 H 13 [some (vI (nI v)), some (vI (nI len)), some (vR (some L)), some (vI (nI dd)), some (vI (nI u))] [] := by
        intro k
        induction k with
        | zero =>
          intro dd u hk hu hQ
          have hQ' : Qr (some (vI (nI (10000 * dd)))) H := hQ
          refine r_iload_n (i := 3) dX2_behind_13 rfl rfl ?_
          refine r_aload_n (i := 2) dX2_behind_14 rfl rfl ?_
          refine r_callV (As := []) (mc' := 0) (ms' := 0) dX2_behind_15 k_X2_88 rfl (by first | assumption | (simp only [kd_sI, kd_sR, kd_sA, kd_sQ, kd_sL, kd_sD, ln_sI, ln_sR, ln_sA, ln_sQ, ln_sL, ln_sD, gI_sR, gI_sA, gI_sQ, gI_sL, gI_sD, gR_sI, gR_sA, gR_sQ, gR_sL, gR_sD, gA_sI, gA_sR, gA_sQ, gA_sL, gA_sD, gQ_sI, gQ_sR, gQ_sA, gQ_sL, gQ_sD, gL_sI, gL_sR, gL_sA, gL_sQ, gL_sD]; assumption) | simp [kd_sI, kd_sR, kd_sA, kd_sQ, kd_sL, kd_sD, ln_sI, ln_sR, ln_sA, ln_sQ, ln_sL, ln_sD, gI_sR, gI_sA, gI_sQ, gI_sL, gI_sD, gR_sI, gR_sA, gR_sQ, gR_sL, gR_sD, gA_sI, gA_sR, gA_sQ, gA_sL, gA_sD, gQ_sI, gQ_sR, gQ_sA, gQ_sL, gQ_sD, gL_sI, gL_sR, gL_sA, gL_sQ, gL_sD, kd_nO, kd_nA, *]) (T := TJ2) (N := 3) rfl (by first | assumption | omega) (by first | assumption | omega) (by first | assumption | omega) (Nat.le_of_ble_eq_true rfl) ?_
          refine s_size h.1.1 h.1.2.1 ?_
          show AW mX2_behind G d Qr Qx _ _ H 18 _ _
          refine r_icmp_ge (tgt := 48) dX2_behind_18 (by decide) (fun h18 => ?_) (fun h18 => ?_)
          · refine r_iload_n (i := 3) dX2_behind_48 rfl rfl ?_
            refine r_aload_n (i := 2) dX2_behind_49 rfl rfl ?_
            refine r_callV (As := []) (mc' := 0) (ms' := 0) dX2_behind_50 k_X2_88 rfl (by first | assumption | (simp only [kd_sI, kd_sR, kd_sA, kd_sQ, kd_sL, kd_sD, ln_sI, ln_sR, ln_sA, ln_sQ, ln_sL, ln_sD, gI_sR, gI_sA, gI_sQ, gI_sL, gI_sD, gR_sI, gR_sA, gR_sQ, gR_sL, gR_sD, gA_sI, gA_sR, gA_sQ, gA_sL, gA_sD, gQ_sI, gQ_sR, gQ_sA, gQ_sL, gQ_sD, gL_sI, gL_sR, gL_sA, gL_sQ, gL_sD]; assumption) | simp [kd_sI, kd_sR, kd_sA, kd_sQ, kd_sL, kd_sD, ln_sI, ln_sR, ln_sA, ln_sQ, ln_sL, ln_sD, gI_sR, gI_sA, gI_sQ, gI_sL, gI_sD, gR_sI, gR_sA, gR_sQ, gR_sL, gR_sD, gA_sI, gA_sR, gA_sQ, gA_sL, gA_sD, gQ_sI, gQ_sR, gQ_sA, gQ_sL, gQ_sD, gL_sI, gL_sR, gL_sA, gL_sQ, gL_sD, kd_nO, kd_nA, *]) (T := TJ2) (N := 3) rfl (by first | assumption | omega) (by first | assumption | omega) (by first | assumption | omega) (Nat.le_of_ble_eq_true rfl) ?_
            refine s_size h.1.1 h.1.2.1 ?_
            show AW mX2_behind G d Qr Qx _ _ H 53 _ _
            refine r_icmp_ne (tgt := 64) dX2_behind_53 (by decide) (fun h53 => ?_) (fun h53 => ?_)
            · exact absurd (by rw [show dd = rs.length by omega]) h53
            · refine r_iload_n (i := 3) dX2_behind_56 rfl rfl ?_
              refine r_sipush (v := nI 10000) dX2_behind_57 (by decide) ?_
              refine r_imul dX2_behind_60 ?_
              rw [pk_mul, Nat.mul_comm]
              refine r_goto (tgt := 74) dX2_behind_61 (by decide) ?_
              refine r_ireturn dX2_behind_74 rfl (by first | rfl | assumption | exact vp_nar_int _ | exact pk_nc _) ?_
              exact hQ'
          · exact absurd (nI_le (by omega) (by omega)) h18
        | succ k ih =>
          intro dd u hk hu hQ
          have hdl : dd < rs.length := by omega
          have hvj := h.2 dd hdl
          have hb := hlt _ (getD_mem hdl)
          have hQ1 : Qr (some (vI (nI (if u + len ≤ rs.getD dd 0 then 10000 * dd + (u + len) else bh rs len k (dd + 1) 0)))) H := hQ
          refine r_iload_n (i := 3) dX2_behind_13 rfl rfl ?_
          refine r_aload_n (i := 2) dX2_behind_14 rfl rfl ?_
          refine r_callV (As := []) (mc' := 0) (ms' := 0) dX2_behind_15 k_X2_88 rfl (by first | assumption | (simp only [kd_sI, kd_sR, kd_sA, kd_sQ, kd_sL, kd_sD, ln_sI, ln_sR, ln_sA, ln_sQ, ln_sL, ln_sD, gI_sR, gI_sA, gI_sQ, gI_sL, gI_sD, gR_sI, gR_sA, gR_sQ, gR_sL, gR_sD, gA_sI, gA_sR, gA_sQ, gA_sL, gA_sD, gQ_sI, gQ_sR, gQ_sA, gQ_sL, gQ_sD, gL_sI, gL_sR, gL_sA, gL_sQ, gL_sD]; assumption) | simp [kd_sI, kd_sR, kd_sA, kd_sQ, kd_sL, kd_sD, ln_sI, ln_sR, ln_sA, ln_sQ, ln_sL, ln_sD, gI_sR, gI_sA, gI_sQ, gI_sL, gI_sD, gR_sI, gR_sA, gR_sQ, gR_sL, gR_sD, gA_sI, gA_sR, gA_sQ, gA_sL, gA_sD, gQ_sI, gQ_sR, gQ_sA, gQ_sL, gQ_sD, gL_sI, gL_sR, gL_sA, gL_sQ, gL_sD, kd_nO, kd_nA, *]) (T := TJ2) (N := 3) rfl (by first | assumption | omega) (by first | assumption | omega) (by first | assumption | omega) (Nat.le_of_ble_eq_true rfl) ?_
          refine s_size h.1.1 h.1.2.1 ?_
          show AW mX2_behind G d Qr Qx _ _ H 18 _ _
          refine r_icmp_ge (tgt := 48) dX2_behind_18 (by decide) (fun h18 => ?_) (fun h18 => ?_)
          · exact absurd h18 (nI_ge (by omega) (by omega))
          · refine r_iload dX2_behind_21 rfl ?_
            refine r_iload_n (i := 1) dX2_behind_23 rfl rfl ?_
            refine r_iadd dX2_behind_24 ?_
            try simp only [nI_add]
            refine r_aload_n (i := 2) dX2_behind_25 rfl rfl ?_
            refine r_iload_n (i := 3) dX2_behind_26 rfl rfl ?_
            refine r_callV (As := [_]) (mc' := 0) (ms' := 0) dX2_behind_27 k_X2_110 rfl (by first | assumption | (simp only [kd_sI, kd_sR, kd_sA, kd_sQ, kd_sL, kd_sD, ln_sI, ln_sR, ln_sA, ln_sQ, ln_sL, ln_sD, gI_sR, gI_sA, gI_sQ, gI_sL, gI_sD, gR_sI, gR_sA, gR_sQ, gR_sL, gR_sD, gA_sI, gA_sR, gA_sQ, gA_sL, gA_sD, gQ_sI, gQ_sR, gQ_sA, gQ_sL, gQ_sD, gL_sI, gL_sR, gL_sA, gL_sQ, gL_sD]; assumption) | simp [kd_sI, kd_sR, kd_sA, kd_sQ, kd_sL, kd_sD, ln_sI, ln_sR, ln_sA, ln_sQ, ln_sL, ln_sD, gI_sR, gI_sA, gI_sQ, gI_sL, gI_sD, gR_sI, gR_sA, gR_sQ, gR_sL, gR_sD, gA_sI, gA_sR, gA_sQ, gA_sL, gA_sD, gQ_sI, gQ_sR, gQ_sA, gQ_sL, gQ_sD, gL_sI, gL_sR, gL_sA, gL_sQ, gL_sD, kd_nO, kd_nA, *]) (T := TJ2) (N := 3) rfl (by first | assumption | omega) (by first | assumption | omega) (by first | assumption | omega) (Nat.le_of_ble_eq_true rfl) ?_
            refine s_get (by omega) h.1 hdl (by omega) ?_
            show AW mX2_behind G d Qr Qx _ _ H 30 _ _
            have go : AW mX2_behind G d Qr Qx 0 0 H 36 [some (vI (nI v)), some (vI (nI len)), some (vR (some L)), some (vI (nI dd)), some (vI (nI u))] [vI (nI (rs.getD dd 0)), vI (nI (u + len))] := by
              refine r_icmp_le (tgt := 48) dX2_behind_36 (by decide) (fun h36 => ?_) (fun h36 => ?_)
              · have hle := (nI_leI (by omega) (by omega)).mp h36
                rw [if_pos hle] at hQ1
                refine r_iload_n (i := 3) dX2_behind_48 rfl rfl ?_
                refine r_aload_n (i := 2) dX2_behind_49 rfl rfl ?_
                refine r_callV (As := []) (mc' := 0) (ms' := 0) dX2_behind_50 k_X2_88 rfl (by first | assumption | (simp only [kd_sI, kd_sR, kd_sA, kd_sQ, kd_sL, kd_sD, ln_sI, ln_sR, ln_sA, ln_sQ, ln_sL, ln_sD, gI_sR, gI_sA, gI_sQ, gI_sL, gI_sD, gR_sI, gR_sA, gR_sQ, gR_sL, gR_sD, gA_sI, gA_sR, gA_sQ, gA_sL, gA_sD, gQ_sI, gQ_sR, gQ_sA, gQ_sL, gQ_sD, gL_sI, gL_sR, gL_sA, gL_sQ, gL_sD]; assumption) | simp [kd_sI, kd_sR, kd_sA, kd_sQ, kd_sL, kd_sD, ln_sI, ln_sR, ln_sA, ln_sQ, ln_sL, ln_sD, gI_sR, gI_sA, gI_sQ, gI_sL, gI_sD, gR_sI, gR_sA, gR_sQ, gR_sL, gR_sD, gA_sI, gA_sR, gA_sQ, gA_sL, gA_sD, gQ_sI, gQ_sR, gQ_sA, gQ_sL, gQ_sD, gL_sI, gL_sR, gL_sA, gL_sQ, gL_sD, kd_nO, kd_nA, *]) (T := TJ2) (N := 3) rfl (by first | assumption | omega) (by first | assumption | omega) (by first | assumption | omega) (Nat.le_of_ble_eq_true rfl) ?_
                refine s_size h.1.1 h.1.2.1 ?_
                show AW mX2_behind G d Qr Qx _ _ H 53 _ _
                refine r_icmp_ne (tgt := 64) dX2_behind_53 (by decide) (fun h53 => ?_) (fun h53 => ?_)
                · refine r_iload_n (i := 3) dX2_behind_64 rfl rfl ?_
                  refine r_sipush (v := nI 10000) dX2_behind_65 (by decide) ?_
                  refine r_imul dX2_behind_68 ?_
                  rw [pk_mul]
                  refine r_iload dX2_behind_69 rfl ?_
                  refine r_iadd dX2_behind_71 ?_
                  try simp only [nI_add]
                  refine r_iload_n (i := 1) dX2_behind_72 rfl rfl ?_
                  refine r_iadd dX2_behind_73 ?_
                  try simp only [nI_add]
                  refine r_ireturn dX2_behind_74 rfl (by first | rfl | assumption | exact vp_nar_int _ | exact pk_nc _) ?_
                  rw [show 10000 * dd + (u + len) = dd * 10000 + u + len by omega] at hQ1
                  exact hQ1
                · exact absurd ((nI_eq (a := dd) (b := rs.length) (by omega) (by omega)).mp (by simpa using h53)) (by omega)
              · have hle : ¬ u + len ≤ rs.getD dd 0 := fun q => h36 (nI_le q (by omega))
                rw [if_neg hle] at hQ1
                refine r_iinc dX2_behind_39 rfl (by first | exact nI_1 _ | rfl) (by simp only [lset]; rfl) ?_
                refine r_iconst (v := nI 0) dX2_behind_42 (by decide) ?_
                refine r_istore dX2_behind_43 (Nat.le_of_ble_eq_true rfl) (by simp only [lset]; rfl) ?_
                refine r_goto (tgt := 13) dX2_behind_45 (by decide) ?_
                exact ih (dd + 1) 0 (by omega) (by omega) hQ1
            rcases hvj with ⟨j9, hj9, ej9, hv9⟩ | ⟨k26, f121⟩
            · rw [ej9]
              refine r_castI dX2_behind_30 (by first | assumption | omega) (by first | assumption | exact gI_sIs | exact gR_sRs | with_reducible rfl | (simp only [kd_sI, kd_sR, kd_sA, kd_sQ, kd_sL, kd_sD, ln_sI, ln_sR, ln_sA, ln_sQ, ln_sL, ln_sD, gI_sR, gI_sA, gI_sQ, gI_sL, gI_sD, gR_sI, gR_sA, gR_sQ, gR_sL, gR_sD, gA_sI, gA_sR, gA_sQ, gA_sL, gA_sD, gQ_sI, gQ_sR, gQ_sA, gQ_sL, gQ_sD, gL_sI, gL_sR, gL_sA, gL_sQ, gL_sD]; first | done | assumption | with_reducible rfl) | rfl) q1052 (Or.inl rfl) ?_
              refine r_callVI (As := []) (mc' := 0) (ms' := 0) (j9 := j9) dX2_behind_33 k_X2_117 rfl rfl (by first | assumption | omega) rfl (by first | assumption | omega) (by first | assumption | omega) (by first | assumption | omega) (Nat.le_of_ble_eq_true rfl) ?_
              refine s_intValue (Or.inl ⟨j9, hj9, rfl, hv9⟩) ?_
              exact go
            · refine r_cast dX2_behind_30 (by first | assumption | (simp only [kd_sI, kd_sR, kd_sA, kd_sQ, kd_sL, kd_sD, ln_sI, ln_sR, ln_sA, ln_sQ, ln_sL, ln_sD, gI_sR, gI_sA, gI_sQ, gI_sL, gI_sD, gR_sI, gR_sA, gR_sQ, gR_sL, gR_sD, gA_sI, gA_sR, gA_sQ, gA_sL, gA_sD, gQ_sI, gQ_sR, gQ_sA, gQ_sL, gQ_sD, gL_sI, gL_sR, gL_sA, gL_sQ, gL_sD]; assumption) | simp [kd_sI, kd_sR, kd_sA, kd_sQ, kd_sL, kd_sD, ln_sI, ln_sR, ln_sA, ln_sQ, ln_sL, ln_sD, gI_sR, gI_sA, gI_sQ, gI_sL, gI_sD, gR_sI, gR_sA, gR_sQ, gR_sL, gR_sD, gA_sI, gA_sR, gA_sQ, gA_sL, gA_sD, gQ_sI, gQ_sR, gQ_sA, gQ_sL, gQ_sD, gL_sI, gL_sR, gL_sA, gL_sQ, gL_sD, kd_nO, kd_nA, *]) (T := TJ19) (N := 1) rfl q1052 (Or.inl rfl) ?_
              refine r_callV (As := []) (mc' := 0) (ms' := 0) dX2_behind_33 k_X2_117 rfl (by first | assumption | (simp only [kd_sI, kd_sR, kd_sA, kd_sQ, kd_sL, kd_sD, ln_sI, ln_sR, ln_sA, ln_sQ, ln_sL, ln_sD, gI_sR, gI_sA, gI_sQ, gI_sL, gI_sD, gR_sI, gR_sA, gR_sQ, gR_sL, gR_sD, gA_sI, gA_sR, gA_sQ, gA_sL, gA_sD, gQ_sI, gQ_sR, gQ_sA, gQ_sL, gQ_sD, gL_sI, gL_sR, gL_sA, gL_sQ, gL_sD]; assumption) | simp [kd_sI, kd_sR, kd_sA, kd_sQ, kd_sL, kd_sD, ln_sI, ln_sR, ln_sA, ln_sQ, ln_sL, ln_sD, gI_sR, gI_sA, gI_sQ, gI_sL, gI_sD, gR_sI, gR_sA, gR_sQ, gR_sL, gR_sD, gA_sI, gA_sR, gA_sQ, gA_sL, gA_sD, gQ_sI, gQ_sR, gQ_sA, gQ_sL, gQ_sD, gL_sI, gL_sR, gL_sA, gL_sQ, gL_sD, kd_nO, kd_nA, *]) (T := TJ19) (N := 1) rfl (by first | assumption | omega) (by first | assumption | omega) (by first | assumption | omega) (Nat.le_of_ble_eq_true rfl) ?_
              refine s_intValue (Or.inr ⟨k26, f121⟩) ?_
              exact go
      exact loop _ _ _ (by omega) (by omega) hQ
theorem leastT_le {ns rs : List Nat} : ∀ s i, leastT ns rs s i ≤ 10000 * rs.length := by
  intro s
  induction s with
  | zero => intro i; exact Nat.zero_le _
  | succ s ih =>
    intro i
    show (if i = s + 1 then minK ns rs (leastT ns rs s) (s + 1) ns.length else leastT ns rs s i) ≤ _
    split
    · exact minK_le _
    · exact ih i
theorem pl_fewest {y : Int32} (hd : 9 ≤ d) (hW : PW G H p A g eT ty eR tr tc tf tu eC ca rl re st eD dr) (hI9 : IG g) (hy : isY g y = true) (hQ : (p_few g y).1 = 0 → ∀ H', Ks (fun _ => False) H H' → Qr (some (vI (p_few g y).2)) H') (hX : (p_few g y).1 = 2 → ∀ q H', Ks (fun _ => False) H H' → Qx "java/util/NoSuchElementException" q H') : AMet G d 62 4670 yX2_fewestDrums wX2_fewestDrums H [vR (some p), vI y] Qr Qx := by
  have hB := hI9.1
  have hD := hI9.2.2.2.2.1
  have h101 := hB.2.2.1.2
  have h354 := hB.2.2.2.1.2
  have hN := GN_of hI9
  unfold p_few at hQ hX
  rw [hy, if_pos rfl] at hQ hX
  have hnlen := needsF_len (g := g) (y := y) (nat g 101)
  have hnlt := needsF_lt (y := y) hN (nat g 101) (Nat.le_refl _)
  have hrlen := restsF_len (g := g) (y := y) (nat g 354)
  have hrlt := restsF_lt (y := y) hD (nat g 354) (Nat.le_refl _)
  have hdesc := restsF_desc (g := g) (y := y) (nat g 354)
  refine AMet.of (M := mX2_fewestDrums) (maxL := 8) (by first | rfl | decide +kernel) rfl (Nat.le_of_ble_eq_true rfl) ?_
  show AW mX2_fewestDrums _ _ _ _ _ _ _ 0 [some (vR (some p)), some (vI y), none, none, none, none, none, none] []
  have kp := hW.1.1
  refine r_aload_n (i := 0) dX2_fewestDrums_0 rfl rfl ?_
  refine r_iload_n (i := 1) dX2_fewestDrums_1 rfl rfl ?_
  refine r_callV (As := [_]) (mc' := 38) (ms' := 331) dX2_fewestDrums_2 k_X2_298 rfl (by first | assumption | (simp only [kd_sI, kd_sR, kd_sA, kd_sQ, kd_sL, kd_sD, ln_sI, ln_sR, ln_sA, ln_sQ, ln_sL, ln_sD, gI_sR, gI_sA, gI_sQ, gI_sL, gI_sD, gR_sI, gR_sA, gR_sQ, gR_sL, gR_sD, gA_sI, gA_sR, gA_sQ, gA_sL, gA_sD, gQ_sI, gQ_sR, gQ_sA, gQ_sL, gQ_sD, gL_sI, gL_sR, gL_sA, gL_sQ, gL_sD]; assumption) | simp [kd_sI, kd_sR, kd_sA, kd_sQ, kd_sL, kd_sD, ln_sI, ln_sR, ln_sA, ln_sQ, ln_sL, ln_sD, gI_sR, gI_sA, gI_sQ, gI_sL, gI_sD, gR_sI, gR_sA, gR_sQ, gR_sL, gR_sD, gA_sI, gA_sR, gA_sQ, gA_sL, gA_sD, gQ_sI, gQ_sR, gQ_sA, gQ_sL, gQ_sD, gL_sI, gL_sR, gL_sA, gL_sQ, gL_sD, kd_nO, kd_nA, *]) (T := TX2) (N := 8) rfl (by first | assumption | omega) (by first | assumption | omega) (by first | assumption | omega) (Nat.le_of_ble_eq_true rfl) ?_
  refine pl_needs (by omega) hW hI9 (fun H1 nL ne nx K1 hN1 => ?_)
  have hW1 := hW.k0 K1
  have kp1 := hW1.1.1
  show AW mX2_fewestDrums G d Qr Qx _ _ H1 5 _ _
  refine r_astore_n (i := 2) dX2_fewestDrums_5 rfl (Nat.le_of_ble_eq_true rfl) (by simp only [lset]; rfl) ?_
  refine r_aload_n (i := 0) dX2_fewestDrums_6 rfl rfl ?_
  refine r_iload_n (i := 1) dX2_fewestDrums_7 rfl rfl ?_
  refine r_callV (As := [_]) (mc' := 22) (ms' := 237) dX2_fewestDrums_8 k_X2_302 rfl (by first | assumption | (simp only [kd_sI, kd_sR, kd_sA, kd_sQ, kd_sL, kd_sD, ln_sI, ln_sR, ln_sA, ln_sQ, ln_sL, ln_sD, gI_sR, gI_sA, gI_sQ, gI_sL, gI_sD, gR_sI, gR_sA, gR_sQ, gR_sL, gR_sD, gA_sI, gA_sR, gA_sQ, gA_sL, gA_sD, gQ_sI, gQ_sR, gQ_sA, gQ_sL, gQ_sD, gL_sI, gL_sR, gL_sA, gL_sQ, gL_sD]; assumption) | simp [kd_sI, kd_sR, kd_sA, kd_sQ, kd_sL, kd_sD, ln_sI, ln_sR, ln_sA, ln_sQ, ln_sL, ln_sD, gI_sR, gI_sA, gI_sQ, gI_sL, gI_sD, gR_sI, gR_sA, gR_sQ, gR_sL, gR_sD, gA_sI, gA_sR, gA_sQ, gA_sL, gA_sD, gQ_sI, gQ_sR, gQ_sA, gQ_sL, gQ_sD, gL_sI, gL_sR, gL_sA, gL_sQ, gL_sD, kd_nO, kd_nA, *]) (T := TX2) (N := 8) rfl (by first | assumption | omega) (by first | assumption | omega) (by first | assumption | omega) (Nat.le_of_ble_eq_true rfl) ?_
  refine pl_rests2 (by omega) hW1 hI9 (fun H2 rL e2 rx K2' hR2 => ?_)
  have K2 := K1.tr K2'
  have hN2 := hN1.ks K2' (fun _ _ h => h.elim)
  obtain ⟨ns, hns⟩ : ∃ l, needsF g y (nat g 101) = l := ⟨_, rfl⟩
  obtain ⟨rs, hrs⟩ : ∃ l, restsF g y (nat g 354) = l := ⟨_, rfl⟩
  rw [hns] at hQ hX hnlen hnlt hN2
  rw [hrs] at hQ hX hrlen hrlt hdesc hR2
  obtain ⟨n, hn⟩ : ∃ n, ns.length = n := ⟨_, rfl⟩
  obtain ⟨R, hR⟩ : ∃ R, rs.length = R := ⟨_, rfl⟩
  obtain ⟨S, hS⟩ : ∃ S, 2 ^ n = S := ⟨_, rfl⟩
  have h2n : S ≤ 4096 := by rw [← hS]; exact Nat.le_trans (Nat.pow_le_pow_right (by decide) (show n ≤ 12 by omega)) (by decide)
  have h2n0 : 0 < S := by rw [← hS]; exact Nat.two_pow_pos n
  have knL := hN2.1.1
  have krL := hR2.1.1
  show AW mX2_fewestDrums G d Qr Qx _ _ H2 11 _ _
  refine r_astore_n (i := 3) dX2_fewestDrums_11 rfl (Nat.le_of_ble_eq_true rfl) (by simp only [lset]; rfl) ?_
  refine r_iconst (v := nI 1) dX2_fewestDrums_12 (by decide) ?_
  refine r_aload_n (i := 2) dX2_fewestDrums_13 rfl rfl ?_
  refine r_callV (As := []) (mc' := 0) (ms' := 0) dX2_fewestDrums_14 k_X2_88 rfl (by first | assumption | (simp only [kd_sI, kd_sR, kd_sA, kd_sQ, kd_sL, kd_sD, ln_sI, ln_sR, ln_sA, ln_sQ, ln_sL, ln_sD, gI_sR, gI_sA, gI_sQ, gI_sL, gI_sD, gR_sI, gR_sA, gR_sQ, gR_sL, gR_sD, gA_sI, gA_sR, gA_sQ, gA_sL, gA_sD, gQ_sI, gQ_sR, gQ_sA, gQ_sL, gQ_sD, gL_sI, gL_sR, gL_sA, gL_sQ, gL_sD]; assumption) | simp [kd_sI, kd_sR, kd_sA, kd_sQ, kd_sL, kd_sD, ln_sI, ln_sR, ln_sA, ln_sQ, ln_sL, ln_sD, gI_sR, gI_sA, gI_sQ, gI_sL, gI_sD, gR_sI, gR_sA, gR_sQ, gR_sL, gR_sD, gA_sI, gA_sR, gA_sQ, gA_sL, gA_sD, gQ_sI, gQ_sR, gQ_sA, gQ_sL, gQ_sD, gL_sI, gL_sR, gL_sA, gL_sQ, gL_sD, kd_nO, kd_nA, *]) (T := TJ2) (N := 3) rfl (by first | assumption | omega) (by first | assumption | omega) (by first | assumption | omega) (Nat.le_of_ble_eq_true rfl) ?_
  refine s_size hN2.1.1 hN2.1.2.1 ?_
  rw [hn]
  show AW mX2_fewestDrums G d Qr Qx _ _ H2 17 _ _
  refine r_ishl dX2_fewestDrums_17 ?_
  rw [sh1 n (by omega), hS]
  refine r_istore dX2_fewestDrums_18 (Nat.le_of_ble_eq_true rfl) (by simp only [lset]; rfl) ?_
  refine r_iload dX2_fewestDrums_20 rfl ?_
  refine r_new_int 1012 dX2_fewestDrums_22 q1480 (by decide) (by first | with_reducible rfl | assumption | (simp only [nI_add, pk_mul, nI_1]; with_reducible rfl)) (by first | assumption | omega) (by first | assumption | omega) (by first | assumption | omega) (fun q22 hq22 => ?_)
  refine r_astore dX2_fewestDrums_24 (Nat.le_of_ble_eq_true rfl) (by simp only [lset]; rfl) ?_
  have hqa : kd H2 q22 = 0 := hq22
  refine AW.name (fun H3 hH3 => ?_)
  have K3' : Ks (fun _ => False) H2 H3 := by rw [hH3]; exact Ks.rf.nA hqa
  have K3 := K2.tr K3'
  have hN3 := hN2.ks K3' (fun _ _ h => h.elim)
  have hR3 := hR2.ks K3' (fun _ _ h => h.elim)
  have kq3 : kd H3 q22 = 1012 := by rw [hH3, kd_nA, if_pos rfl]
  have lq3 : ln H3 q22 = S := by rw [hH3, ln_nA, if_pos rfl]
  have gq3 : ∀ i, gA H3 1012 q22 i = 0 := fun i => by rw [hH3, gA_nA, if_pos ⟨rfl, rfl⟩]
  have hqa0 : kd H q22 = 0 := K2.fr hqa
  refine r_iconst (v := nI 1) dX2_fewestDrums_26 (by decide) ?_
  refine r_istore dX2_fewestDrums_27 (Nat.le_of_ble_eq_true rfl) (by simp only [lset]; rfl) ?_
  have outer : ∀ (k s : Nat) (H4 : AH) (l7 : Option AV), s + k = S → 1 ≤ s → Ks (fun b => b = q22) H3 H4 → ln H4 q22 = S → (∀ i, i < s → gA H4 1012 q22 i = nI (leastT ns rs (s - 1) i)) → AW mX2_fewestDrums G d Qr Qx 1 6 H4 29 [some (vR (some p)), some (vI y), some (vR (some nL)), some (vR (some rL)), some (vI (nI S)), some (vR (some q22)), some (vI (nI s)), l7] [] := by
    intro k
    induction k with
    | zero =>
      intro s H4 l7 hs hs1 K4' lq4 hT4
      have K4 : Ks (fun _ => False) H H4 := K3.tr2 K4' (fun b hb e => by rw [e] at hb; exact hb hqa0)
      have kq4 : kd H4 q22 = 1012 := K4'.kk kq3 (by decide)
      have hR4 := hR3.ks K4' (fun b _ e => by rw [e, kq3]; decide)
      have krL4 := hR4.1.1
      have hsS : s = S := by omega
      have hTop := hT4 (S - 1) (by omega)
      rw [hsS] at hTop
      obtain ⟨top, htop⟩ : ∃ x, leastT ns rs (S - 1) (S - 1) = x := ⟨_, rfl⟩
      have htl := leastT_le (ns := ns) (rs := rs) (S - 1) (S - 1)
      rw [htop] at hTop htl
      have htl2 : top ≤ 100000 := by omega
      rw [hn, hR, hS, htop] at hQ hX
      have hS1 : S = 1 ↔ ns = [] := by
        rw [← List.length_eq_zero_iff, hn, ← hS]
        constructor
        · intro h
          rcases Nat.eq_zero_or_pos n with h0 | h0
          · exact h0
          · have : 2 ^ 1 ≤ 2 ^ n := Nat.pow_le_pow_right (by decide) h0
            omega
        · intro h; rw [h]
      have e1 : nI S - nI 1 = nI (S - 1) := nI_sub (by omega)
      have fin : ∀ b, b = true → (S = 1 ∨ top < 10000 * R) → AW mX2_fewestDrums G d Qr Qx 1 6 H4 158 [some (vR (some p)), some (vI y), some (vR (some nL)), some (vR (some rL)), some (vI (nI S)), some (vR (some q22)), some (vI (nI top)), l7] [vI (bI b)] := by
        intro b hb hgood
        refine r_callSN (As := [_]) (mc' := 1) (ms' := 6) dX2_fewestDrums_158 k_X2_312 rfl (by first | assumption | omega) (by first | assumption | omega) (by first | assumption | omega) (Nat.le_of_ble_eq_true rfl) ?_
        refine s_checkElement (by omega) (fun _ => ?_) (fun h => by rw [hb] at h; cases h)
        show AW mX2_fewestDrums G d Qr Qx _ _ H4 161 _ _
        by_cases h1 : S = 1
        · rw [if_pos (hS1.mp h1)] at hQ
          refine r_iload dX2_fewestDrums_161 rfl ?_
          refine r_iconst (v := nI 1) dX2_fewestDrums_163 (by decide) ?_
          refine r_icmp_ne (tgt := 171) dX2_fewestDrums_164 (by decide) (fun h164 => ?_) (fun h164 => ?_)
          · exact absurd (by rw [h1]) h164
          · refine r_iconst (v := nI 0) dX2_fewestDrums_167 (by decide) ?_
            refine r_goto (tgt := 179) dX2_fewestDrums_168 (by decide) ?_
            refine r_ireturn dX2_fewestDrums_179 rfl (by first | rfl | assumption | exact vp_nar_int _ | exact pk_nc _) ?_
            exact hQ rfl H4 K4
        · have hne : ns ≠ [] := fun q => h1 (hS1.mpr q)
          have hlt9 : top < 10000 * R := hgood.resolve_left h1
          have hrne : rs ≠ [] := fun q => by rw [← List.length_eq_zero_iff] at q; omega
          rw [if_neg hne, if_neg hrne, if_pos hlt9] at hQ
          have hdv : nI top / nI 10000 = nI (top / 10000) := nI_div (by omega) (by decide)
          refine r_iload dX2_fewestDrums_161 rfl ?_
          refine r_iconst (v := nI 1) dX2_fewestDrums_163 (by decide) ?_
          refine r_icmp_ne (tgt := 171) dX2_fewestDrums_164 (by decide) (fun h164 => ?_) (fun h164 => ?_)
          · refine r_iload dX2_fewestDrums_171 rfl ?_
            refine r_sipush (v := nI 10000) dX2_fewestDrums_173 (by decide) ?_
            refine r_idiv dX2_fewestDrums_176 ?_ ?_
            · decide
            · rw [hdv]
              refine r_iconst (v := nI 1) dX2_fewestDrums_177 (by decide) ?_
              refine r_iadd dX2_fewestDrums_178 ?_
              try simp only [nI_add]
              refine r_ireturn dX2_fewestDrums_179 rfl (by first | rfl | assumption | exact vp_nar_int _ | exact pk_nc _) ?_
              exact hQ rfl H4 K4
          · exact absurd ((nI_eq (a := S) (b := 1) (by omega) (by omega)).mp (by simpa using h164)) h1
      refine r_iload dX2_fewestDrums_29 rfl ?_
      refine r_iload dX2_fewestDrums_31 rfl ?_
      refine r_icmp_ge (tgt := 125) dX2_fewestDrums_33 (by decide) (fun h33 => ?_) (fun h33 => ?_)
      · refine r_aload dX2_fewestDrums_125 rfl ?_
        refine r_iload dX2_fewestDrums_127 rfl ?_
        refine r_iconst (v := nI 1) dX2_fewestDrums_129 (by decide) ?_
        refine r_isub dX2_fewestDrums_130 ?_
        rw [e1]
        refine r_iald dX2_fewestDrums_131 (by first | assumption | (simp only [kd_sI, kd_sR, kd_sA, kd_sQ, kd_sL, kd_sD, ln_sI, ln_sR, ln_sA, ln_sQ, ln_sL, ln_sD, gI_sR, gI_sA, gI_sQ, gI_sL, gI_sD, gR_sI, gR_sA, gR_sQ, gR_sL, gR_sD, gA_sI, gA_sR, gA_sQ, gA_sL, gA_sD, gQ_sI, gQ_sR, gQ_sA, gQ_sL, gQ_sD, gL_sI, gL_sR, gL_sA, gL_sQ, gL_sD]; assumption) | simp [kd_sI, kd_sR, kd_sA, kd_sQ, kd_sL, kd_sD, ln_sI, ln_sR, ln_sA, ln_sQ, ln_sL, ln_sD, gI_sR, gI_sA, gI_sQ, gI_sL, gI_sD, gR_sI, gR_sA, gR_sQ, gR_sL, gR_sD, gA_sI, gA_sR, gA_sQ, gA_sL, gA_sD, gQ_sI, gQ_sR, gQ_sA, gQ_sL, gQ_sD, gL_sI, gL_sR, gL_sA, gL_sQ, gL_sD, kd_nO, kd_nA, *]) (by first | decide | assumption) (by first | assumption | exact gI_sIs | exact gR_sRs | with_reducible rfl | (simp only [kd_sI, kd_sR, kd_sA, kd_sQ, kd_sL, kd_sD, ln_sI, ln_sR, ln_sA, ln_sQ, ln_sL, ln_sD, gI_sR, gI_sA, gI_sQ, gI_sL, gI_sD, gR_sI, gR_sA, gR_sQ, gR_sL, gR_sD, gA_sI, gA_sR, gA_sQ, gA_sL, gA_sD, gQ_sI, gQ_sR, gQ_sA, gQ_sL, gQ_sD, gL_sI, gL_sR, gL_sA, gL_sQ, gL_sD]; first | done | assumption | with_reducible rfl) | rfl) (by first | with_reducible rfl | assumption | (simp only [nI_add, pk_mul, nI_1]; with_reducible rfl)) (by first | assumption | omega) (by first | assumption | omega) (by first | assumption | exact gI_sIs | exact gR_sRs | with_reducible rfl | (simp only [kd_sI, kd_sR, kd_sA, kd_sQ, kd_sL, kd_sD, ln_sI, ln_sR, ln_sA, ln_sQ, ln_sL, ln_sD, gI_sR, gI_sA, gI_sQ, gI_sL, gI_sD, gR_sI, gR_sA, gR_sQ, gR_sL, gR_sD, gA_sI, gA_sR, gA_sQ, gA_sL, gA_sD, gQ_sI, gQ_sR, gQ_sA, gQ_sL, gQ_sD, gL_sI, gL_sR, gL_sA, gL_sQ, gL_sD]; first | done | assumption | with_reducible rfl) | rfl) ?_
        refine r_istore dX2_fewestDrums_132 (Nat.le_of_ble_eq_true rfl) (by simp only [lset]; rfl) ?_
        refine r_iload dX2_fewestDrums_134 rfl ?_
        refine r_iconst (v := nI 1) dX2_fewestDrums_136 (by decide) ?_
        refine r_icmp_eq (tgt := 153) dX2_fewestDrums_137 (by decide) (fun h137 => ?_) (fun h137 => ?_)
        · refine r_iconst (v := nI 1) dX2_fewestDrums_153 (by decide) ?_
          refine r_goto (tgt := 158) dX2_fewestDrums_154 (by decide) ?_
          exact fin true rfl (Or.inl ((nI_eq (a := S) (b := 1) (by omega) (by omega)).mp (by simpa using h137)))
        · have h1 : S ≠ 1 := fun q => h137 (by rw [q])
          refine r_iload dX2_fewestDrums_140 rfl ?_
          refine r_aload_n (i := 3) dX2_fewestDrums_142 rfl rfl ?_
          refine r_callV (As := []) (mc' := 0) (ms' := 0) dX2_fewestDrums_143 k_X2_88 rfl (by first | assumption | (simp only [kd_sI, kd_sR, kd_sA, kd_sQ, kd_sL, kd_sD, ln_sI, ln_sR, ln_sA, ln_sQ, ln_sL, ln_sD, gI_sR, gI_sA, gI_sQ, gI_sL, gI_sD, gR_sI, gR_sA, gR_sQ, gR_sL, gR_sD, gA_sI, gA_sR, gA_sQ, gA_sL, gA_sD, gQ_sI, gQ_sR, gQ_sA, gQ_sL, gQ_sD, gL_sI, gL_sR, gL_sA, gL_sQ, gL_sD]; assumption) | simp [kd_sI, kd_sR, kd_sA, kd_sQ, kd_sL, kd_sD, ln_sI, ln_sR, ln_sA, ln_sQ, ln_sL, ln_sD, gI_sR, gI_sA, gI_sQ, gI_sL, gI_sD, gR_sI, gR_sA, gR_sQ, gR_sL, gR_sD, gA_sI, gA_sR, gA_sQ, gA_sL, gA_sD, gQ_sI, gQ_sR, gQ_sA, gQ_sL, gQ_sD, gL_sI, gL_sR, gL_sA, gL_sQ, gL_sD, kd_nO, kd_nA, *]) (T := TJ2) (N := 3) rfl (by first | assumption | omega) (by first | assumption | omega) (by first | assumption | omega) (Nat.le_of_ble_eq_true rfl) ?_
          refine s_size hR4.1.1 hR4.1.2.1 ?_
          rw [hR]
          show AW mX2_fewestDrums G d Qr Qx _ _ H4 146 _ _
          refine r_sipush (v := nI 10000) dX2_fewestDrums_146 (by decide) ?_
          refine r_imul dX2_fewestDrums_149 ?_
          rw [pk_mul, Nat.mul_comm]
          refine r_icmp_ge (tgt := 157) dX2_fewestDrums_150 (by decide) (fun h150 => ?_) (fun h150 => ?_)
          · have hge := (nI_leI (by omega) (by omega)).mp h150
            have hne : ns ≠ [] := fun q => h1 (hS1.mpr q)
            rw [if_neg hne] at hX
            refine r_iconst (v := nI 0) dX2_fewestDrums_157 (by decide) ?_
            refine r_callSN (As := [_]) (mc' := 1) (ms' := 6) dX2_fewestDrums_158 k_X2_312 rfl (by first | assumption | omega) (by first | assumption | omega) (by first | assumption | omega) (Nat.le_of_ble_eq_true rfl) ?_
            refine s_checkElement (b := false) (by omega) (fun h => by cases h) (fun _ q => x_out (by decide) (hX ?_ q H4 K4))
            by_cases hr : rs = []
            · rw [if_pos hr]
            · rw [if_neg hr, if_neg (by omega)]
          · have hlt9 : top < 10000 * R := by
              rcases Nat.lt_or_ge top (10000 * R) with q | q
              · exact q
              · exact absurd (nI_le q (by omega)) h150
            refine r_iconst (v := nI 1) dX2_fewestDrums_153 (by decide) ?_
            refine r_goto (tgt := 158) dX2_fewestDrums_154 (by decide) ?_
            exact fin true rfl (Or.inr hlt9)
      · exact absurd (by rw [hsS]; exact Int32.le_refl _) h33
    | succ k ih =>
      intro s H4 l7 hs hs1 K4' lq4 hT4
      have K4 : Ks (fun _ => False) H H4 := K3.tr2 K4' (fun b hb e => by rw [e] at hb; exact hb hqa0)
      have kq4 : kd H4 q22 = 1012 := K4'.kk kq3 (by decide)
      have hR4 := hR3.ks K4' (fun b _ e => by rw [e, kq3]; decide)
      have krL4 := hR4.1.1
      have hsS : s < S := by omega
      refine r_iload dX2_fewestDrums_29 rfl ?_
      refine r_iload dX2_fewestDrums_31 rfl ?_
      refine r_icmp_ge (tgt := 125) dX2_fewestDrums_33 (by decide) (fun h33 => ?_) (fun h33 => ?_)
      · exact absurd h33 (nI_ge (by omega) (by omega))
      · refine r_aload dX2_fewestDrums_36 rfl ?_
        refine r_iload dX2_fewestDrums_38 rfl ?_
        refine r_aload_n (i := 3) dX2_fewestDrums_40 rfl rfl ?_
        refine r_callV (As := []) (mc' := 0) (ms' := 0) dX2_fewestDrums_41 k_X2_88 rfl (by first | assumption | (simp only [kd_sI, kd_sR, kd_sA, kd_sQ, kd_sL, kd_sD, ln_sI, ln_sR, ln_sA, ln_sQ, ln_sL, ln_sD, gI_sR, gI_sA, gI_sQ, gI_sL, gI_sD, gR_sI, gR_sA, gR_sQ, gR_sL, gR_sD, gA_sI, gA_sR, gA_sQ, gA_sL, gA_sD, gQ_sI, gQ_sR, gQ_sA, gQ_sL, gQ_sD, gL_sI, gL_sR, gL_sA, gL_sQ, gL_sD]; assumption) | simp [kd_sI, kd_sR, kd_sA, kd_sQ, kd_sL, kd_sD, ln_sI, ln_sR, ln_sA, ln_sQ, ln_sL, ln_sD, gI_sR, gI_sA, gI_sQ, gI_sL, gI_sD, gR_sI, gR_sA, gR_sQ, gR_sL, gR_sD, gA_sI, gA_sR, gA_sQ, gA_sL, gA_sD, gQ_sI, gQ_sR, gQ_sA, gQ_sL, gQ_sD, gL_sI, gL_sR, gL_sA, gL_sQ, gL_sD, kd_nO, kd_nA, *]) (T := TJ2) (N := 3) rfl (by first | assumption | omega) (by first | assumption | omega) (by first | assumption | omega) (Nat.le_of_ble_eq_true rfl) ?_
        refine s_size hR4.1.1 hR4.1.2.1 ?_
        rw [hR]
        show AW mX2_fewestDrums G d Qr Qx _ _ H4 44 _ _
        refine r_sipush (v := nI 10000) dX2_fewestDrums_44 (by decide) ?_
        refine r_imul dX2_fewestDrums_47 ?_
        rw [pk_mul, Nat.mul_comm]
        refine r_iast dX2_fewestDrums_48 (by first | assumption | (simp only [kd_sI, kd_sR, kd_sA, kd_sQ, kd_sL, kd_sD, ln_sI, ln_sR, ln_sA, ln_sQ, ln_sL, ln_sD, gI_sR, gI_sA, gI_sQ, gI_sL, gI_sD, gR_sI, gR_sA, gR_sQ, gR_sL, gR_sD, gA_sI, gA_sR, gA_sQ, gA_sL, gA_sD, gQ_sI, gQ_sR, gQ_sA, gQ_sL, gQ_sD, gL_sI, gL_sR, gL_sA, gL_sQ, gL_sD]; assumption) | simp [kd_sI, kd_sR, kd_sA, kd_sQ, kd_sL, kd_sD, ln_sI, ln_sR, ln_sA, ln_sQ, ln_sL, ln_sD, gI_sR, gI_sA, gI_sQ, gI_sL, gI_sD, gR_sI, gR_sA, gR_sQ, gR_sL, gR_sD, gA_sI, gA_sR, gA_sQ, gA_sL, gA_sD, gQ_sI, gQ_sR, gQ_sA, gQ_sL, gQ_sD, gL_sI, gL_sR, gL_sA, gL_sQ, gL_sD, kd_nO, kd_nA, *]) (by first | decide | assumption) (by first | assumption | exact gI_sIs | exact gR_sRs | with_reducible rfl | (simp only [kd_sI, kd_sR, kd_sA, kd_sQ, kd_sL, kd_sD, ln_sI, ln_sR, ln_sA, ln_sQ, ln_sL, ln_sD, gI_sR, gI_sA, gI_sQ, gI_sL, gI_sD, gR_sI, gR_sA, gR_sQ, gR_sL, gR_sD, gA_sI, gA_sR, gA_sQ, gA_sL, gA_sD, gQ_sI, gQ_sR, gQ_sA, gQ_sL, gQ_sD, gL_sI, gL_sR, gL_sA, gL_sQ, gL_sD]; first | done | assumption | with_reducible rfl) | rfl) (by first | with_reducible rfl | assumption | (simp only [nI_add, pk_mul, nI_1]; with_reducible rfl)) (by first | assumption | omega) (by first | assumption | omega) ?_
        refine AW.name (fun H5 hH5 => ?_)
        have K5' : Ks (fun b => b = q22) H3 H5 := by rw [hH5]; exact K4'.sA (fun _ => rfl)
        have inner : ∀ (k9 j : Nat) (H6 : AH), j + k9 = n → Ks (fun b => b = q22) H3 H6 → ln H6 q22 = S → (∀ i, i < s → gA H6 1012 q22 i = nI (leastT ns rs (s - 1) i)) → gA H6 1012 q22 s = nI (minK ns rs (leastT ns rs (s - 1)) s j) → AW mX2_fewestDrums G d Qr Qx 1 6 H6 52 [some (vR (some p)), some (vI y), some (vR (some nL)), some (vR (some rL)), some (vI (nI S)), some (vR (some q22)), some (vI (nI s)), some (vI (nI j))] [] := by
          intro k9
          induction k9 with
          | zero =>
            intro j H6 hj K6' lq6 hT6 hM6
            have hN6 := hN3.ks K6' (fun b _ e => by rw [e, kq3]; decide)
            have knL6 := hN6.1.1
            refine r_iload dX2_fewestDrums_52 rfl ?_
            refine r_aload_n (i := 2) dX2_fewestDrums_54 rfl rfl ?_
            refine r_callV (As := []) (mc' := 0) (ms' := 0) dX2_fewestDrums_55 k_X2_88 rfl (by first | assumption | (simp only [kd_sI, kd_sR, kd_sA, kd_sQ, kd_sL, kd_sD, ln_sI, ln_sR, ln_sA, ln_sQ, ln_sL, ln_sD, gI_sR, gI_sA, gI_sQ, gI_sL, gI_sD, gR_sI, gR_sA, gR_sQ, gR_sL, gR_sD, gA_sI, gA_sR, gA_sQ, gA_sL, gA_sD, gQ_sI, gQ_sR, gQ_sA, gQ_sL, gQ_sD, gL_sI, gL_sR, gL_sA, gL_sQ, gL_sD]; assumption) | simp [kd_sI, kd_sR, kd_sA, kd_sQ, kd_sL, kd_sD, ln_sI, ln_sR, ln_sA, ln_sQ, ln_sL, ln_sD, gI_sR, gI_sA, gI_sQ, gI_sL, gI_sD, gR_sI, gR_sA, gR_sQ, gR_sL, gR_sD, gA_sI, gA_sR, gA_sQ, gA_sL, gA_sD, gQ_sI, gQ_sR, gQ_sA, gQ_sL, gQ_sD, gL_sI, gL_sR, gL_sA, gL_sQ, gL_sD, kd_nO, kd_nA, *]) (T := TJ2) (N := 3) rfl (by first | assumption | omega) (by first | assumption | omega) (by first | assumption | omega) (Nat.le_of_ble_eq_true rfl) ?_
            refine s_size hN6.1.1 hN6.1.2.1 ?_
            rw [hn]
            show AW mX2_fewestDrums G d Qr Qx _ _ H6 58 _ _
            refine r_icmp_ge (tgt := 119) dX2_fewestDrums_58 (by decide) (fun h58 => ?_) (fun h58 => ?_)
            · refine r_iinc dX2_fewestDrums_119 rfl (by first | exact nI_1 _ | rfl) (by simp only [lset]; rfl) ?_
              refine r_goto (tgt := 29) dX2_fewestDrums_122 (by decide) ?_
              refine ih (s + 1) H6 _ (by omega) (by omega) K6' lq6 (fun i hi => ?_)
              obtain ⟨s', rfl⟩ : ∃ s', s = s' + 1 := ⟨s - 1, by omega⟩
              show _ = nI (if i = s' + 1 then minK ns rs (leastT ns rs s') (s' + 1) ns.length else leastT ns rs s' i)
              by_cases e : i = s' + 1
              · rw [if_pos e, e, hM6, hn, show j = n by omega]
                rfl
              · rw [if_neg e]
                exact hT6 i (by omega)
            · exact absurd (nI_le (by omega) (by omega)) h58
          | succ k9 ih9 =>
            intro j H6 hj K6' lq6 hT6 hM6
            have hN6 := hN3.ks K6' (fun b _ e => by rw [e, kq3]; decide)
            have hR6 := hR3.ks K6' (fun b _ e => by rw [e, kq3]; decide)
            have knL6 := hN6.1.1
            have kq6 : kd H6 q22 = 1012 := K6'.kk kq3 (by decide)
            have hjn : j < n := by omega
            have hstep : minK ns rs (leastT ns rs (s - 1)) s (j + 1) = if s.testBit j = true then min (minK ns rs (leastT ns rs (s - 1)) s j) (behF rs (leastT ns rs (s - 1) (s - 2 ^ j)) (ns.getD j 0)) else minK ns rs (leastT ns rs (s - 1)) s j := rfl
            obtain ⟨x1, x2, x3, x4⟩ := xr (s := s) (k := j) (by omega) (by omega)
            refine r_iload dX2_fewestDrums_52 rfl ?_
            refine r_aload_n (i := 2) dX2_fewestDrums_54 rfl rfl ?_
            refine r_callV (As := []) (mc' := 0) (ms' := 0) dX2_fewestDrums_55 k_X2_88 rfl (by first | assumption | (simp only [kd_sI, kd_sR, kd_sA, kd_sQ, kd_sL, kd_sD, ln_sI, ln_sR, ln_sA, ln_sQ, ln_sL, ln_sD, gI_sR, gI_sA, gI_sQ, gI_sL, gI_sD, gR_sI, gR_sA, gR_sQ, gR_sL, gR_sD, gA_sI, gA_sR, gA_sQ, gA_sL, gA_sD, gQ_sI, gQ_sR, gQ_sA, gQ_sL, gQ_sD, gL_sI, gL_sR, gL_sA, gL_sQ, gL_sD]; assumption) | simp [kd_sI, kd_sR, kd_sA, kd_sQ, kd_sL, kd_sD, ln_sI, ln_sR, ln_sA, ln_sQ, ln_sL, ln_sD, gI_sR, gI_sA, gI_sQ, gI_sL, gI_sD, gR_sI, gR_sA, gR_sQ, gR_sL, gR_sD, gA_sI, gA_sR, gA_sQ, gA_sL, gA_sD, gQ_sI, gQ_sR, gQ_sA, gQ_sL, gQ_sD, gL_sI, gL_sR, gL_sA, gL_sQ, gL_sD, kd_nO, kd_nA, *]) (T := TJ2) (N := 3) rfl (by first | assumption | omega) (by first | assumption | omega) (by first | assumption | omega) (Nat.le_of_ble_eq_true rfl) ?_
            refine s_size hN6.1.1 hN6.1.2.1 ?_
            rw [hn]
            show AW mX2_fewestDrums G d Qr Qx _ _ H6 58 _ _
            refine r_icmp_ge (tgt := 119) dX2_fewestDrums_58 (by decide) (fun h58 => ?_) (fun h58 => ?_)
            · exact absurd h58 (nI_ge (by omega) (by omega))
            · refine r_iload dX2_fewestDrums_61 rfl ?_
              refine r_iload dX2_fewestDrums_63 rfl ?_
              refine r_ishr dX2_fewestDrums_65 ?_
              refine r_iconst (v := nI 1) dX2_fewestDrums_66 (by decide) ?_
              refine r_iand dX2_fewestDrums_67 ?_
              rw [nx_bit (by omega)]
              cases hb : s.testBit j with
              | false =>
                rw [hb] at hstep
                have hstep' : minK ns rs (leastT ns rs (s - 1)) s (j + 1) = minK ns rs (leastT ns rs (s - 1)) s j := hstep
                show AW mX2_fewestDrums G d Qr Qx _ _ H6 68 _ [vI (nI 0)]
                refine r_iconst (v := nI 1) dX2_fewestDrums_68 (by decide) ?_
                refine r_icmp_ne (tgt := 113) dX2_fewestDrums_69 (by decide) (fun h69 => ?_) (fun h69 => ?_)
                · refine r_iinc dX2_fewestDrums_113 rfl (by first | exact nI_1 _ | rfl) (by simp only [lset]; rfl) ?_
                  refine r_goto (tgt := 52) dX2_fewestDrums_116 (by decide) ?_
                  exact ih9 (j + 1) H6 (by omega) K6' lq6 hT6 (by rw [hstep']; exact hM6)
                · exact absurd h69 (by decide)
              | true =>
                rw [hb] at hstep x1
                have hstep' : minK ns rs (leastT ns rs (s - 1)) s (j + 1) = min (minK ns rs (leastT ns rs (s - 1)) s j) (behF rs (leastT ns rs (s - 1) (s - 2 ^ j)) (ns.getD j 0)) := hstep
                have x1' : s ^^^ 2 ^ j = s - 2 ^ j := x1
                have x2' := x2 hb
                have e2 : nI s &&& (nI 1 <<< (nI j &&& 31) ^^^ (-1)) = nI (s - 2 ^ j) := by rw [sh1 j (by omega), nx_clr hb, x1']
                have hl := hT6 (s - 2 ^ j) (by omega)
                have hle := leastT_le (ns := ns) (rs := rs) (s - 1) (s - 2 ^ j)
                obtain ⟨m0, hm0⟩ : ∃ x, minK ns rs (leastT ns rs (s - 1)) s j = x := ⟨_, rfl⟩
                have hm0l : m0 ≤ 10000 * rs.length := by rw [← hm0]; exact minK_le j
                rw [hm0] at hM6 hstep'
                obtain ⟨v, hv⟩ : ∃ x, leastT ns rs (s - 1) (s - 2 ^ j) = x := ⟨_, rfl⟩
                rw [hv] at hl hle hstep'
                have hvj := hN6.2 j (by omega)
                obtain ⟨len, hlen⟩ : ∃ x, ns.getD j 0 = x := ⟨_, rfl⟩
                have hlen9 : len < 1000 := by rw [← hlen]; exact hnlt _ (getD_mem (by omega))
                rw [hlen] at hvj hstep'
                obtain ⟨bv, hbv⟩ : ∃ x, behF rs v len = x := ⟨_, rfl⟩
                have hbvl : bv ≤ 110000 := by
                  rw [← hbv]
                  unfold behF
                  split
                  · split
                    · omega
                    · split <;> omega
                  · omega
                rw [hbv] at hstep'
                show AW mX2_fewestDrums G d Qr Qx _ _ H6 68 _ [vI (nI 1)]
                refine r_iconst (v := nI 1) dX2_fewestDrums_68 (by decide) ?_
                refine r_icmp_ne (tgt := 113) dX2_fewestDrums_69 (by decide) (fun h69 => ?_) (fun h69 => ?_)
                · exact absurd rfl h69
                · refine r_aload dX2_fewestDrums_72 rfl ?_
                  refine r_iload dX2_fewestDrums_74 rfl ?_
                  refine r_aload dX2_fewestDrums_76 rfl ?_
                  refine r_iload dX2_fewestDrums_78 rfl ?_
                  refine r_iald dX2_fewestDrums_80 (by first | assumption | (simp only [kd_sI, kd_sR, kd_sA, kd_sQ, kd_sL, kd_sD, ln_sI, ln_sR, ln_sA, ln_sQ, ln_sL, ln_sD, gI_sR, gI_sA, gI_sQ, gI_sL, gI_sD, gR_sI, gR_sA, gR_sQ, gR_sL, gR_sD, gA_sI, gA_sR, gA_sQ, gA_sL, gA_sD, gQ_sI, gQ_sR, gQ_sA, gQ_sL, gQ_sD, gL_sI, gL_sR, gL_sA, gL_sQ, gL_sD]; assumption) | simp [kd_sI, kd_sR, kd_sA, kd_sQ, kd_sL, kd_sD, ln_sI, ln_sR, ln_sA, ln_sQ, ln_sL, ln_sD, gI_sR, gI_sA, gI_sQ, gI_sL, gI_sD, gR_sI, gR_sA, gR_sQ, gR_sL, gR_sD, gA_sI, gA_sR, gA_sQ, gA_sL, gA_sD, gQ_sI, gQ_sR, gQ_sA, gQ_sL, gQ_sD, gL_sI, gL_sR, gL_sA, gL_sQ, gL_sD, kd_nO, kd_nA, *]) (by first | decide | assumption) (by first | assumption | exact gI_sIs | exact gR_sRs | with_reducible rfl | (simp only [kd_sI, kd_sR, kd_sA, kd_sQ, kd_sL, kd_sD, ln_sI, ln_sR, ln_sA, ln_sQ, ln_sL, ln_sD, gI_sR, gI_sA, gI_sQ, gI_sL, gI_sD, gR_sI, gR_sA, gR_sQ, gR_sL, gR_sD, gA_sI, gA_sR, gA_sQ, gA_sL, gA_sD, gQ_sI, gQ_sR, gQ_sA, gQ_sL, gQ_sD, gL_sI, gL_sR, gL_sA, gL_sQ, gL_sD]; first | done | assumption | with_reducible rfl) | rfl) (by first | with_reducible rfl | assumption | (simp only [nI_add, pk_mul, nI_1]; with_reducible rfl)) (by first | assumption | omega) (by first | assumption | omega) (by first | assumption | exact gI_sIs | exact gR_sRs | with_reducible rfl | (simp only [kd_sI, kd_sR, kd_sA, kd_sQ, kd_sL, kd_sD, ln_sI, ln_sR, ln_sA, ln_sQ, ln_sL, ln_sD, gI_sR, gI_sA, gI_sQ, gI_sL, gI_sD, gR_sI, gR_sA, gR_sQ, gR_sL, gR_sD, gA_sI, gA_sR, gA_sQ, gA_sL, gA_sD, gQ_sI, gQ_sR, gQ_sA, gQ_sL, gQ_sD, gL_sI, gL_sR, gL_sA, gL_sQ, gL_sD]; first | done | assumption | with_reducible rfl) | rfl) ?_
                  refine r_aload dX2_fewestDrums_81 rfl ?_
                  refine r_iload dX2_fewestDrums_83 rfl ?_
                  refine r_iconst (v := nI 1) dX2_fewestDrums_85 (by decide) ?_
                  refine r_iload dX2_fewestDrums_86 rfl ?_
                  refine r_ishl dX2_fewestDrums_88 ?_
                  refine r_iconst (v := -1) dX2_fewestDrums_89 (by decide) ?_
                  refine r_ixor dX2_fewestDrums_90 ?_
                  refine r_iand dX2_fewestDrums_91 ?_
                  rw [e2]
                  obtain ⟨z, hz⟩ : ∃ z, s - 2 ^ j = z := ⟨_, rfl⟩
                  rw [hz] at hl ⊢
                  refine r_iald dX2_fewestDrums_92 (by first | assumption | (simp only [kd_sI, kd_sR, kd_sA, kd_sQ, kd_sL, kd_sD, ln_sI, ln_sR, ln_sA, ln_sQ, ln_sL, ln_sD, gI_sR, gI_sA, gI_sQ, gI_sL, gI_sD, gR_sI, gR_sA, gR_sQ, gR_sL, gR_sD, gA_sI, gA_sR, gA_sQ, gA_sL, gA_sD, gQ_sI, gQ_sR, gQ_sA, gQ_sL, gQ_sD, gL_sI, gL_sR, gL_sA, gL_sQ, gL_sD]; assumption) | simp [kd_sI, kd_sR, kd_sA, kd_sQ, kd_sL, kd_sD, ln_sI, ln_sR, ln_sA, ln_sQ, ln_sL, ln_sD, gI_sR, gI_sA, gI_sQ, gI_sL, gI_sD, gR_sI, gR_sA, gR_sQ, gR_sL, gR_sD, gA_sI, gA_sR, gA_sQ, gA_sL, gA_sD, gQ_sI, gQ_sR, gQ_sA, gQ_sL, gQ_sD, gL_sI, gL_sR, gL_sA, gL_sQ, gL_sD, kd_nO, kd_nA, *]) (by first | decide | assumption) (by first | assumption | exact gI_sIs | exact gR_sRs | with_reducible rfl | (simp only [kd_sI, kd_sR, kd_sA, kd_sQ, kd_sL, kd_sD, ln_sI, ln_sR, ln_sA, ln_sQ, ln_sL, ln_sD, gI_sR, gI_sA, gI_sQ, gI_sL, gI_sD, gR_sI, gR_sA, gR_sQ, gR_sL, gR_sD, gA_sI, gA_sR, gA_sQ, gA_sL, gA_sD, gQ_sI, gQ_sR, gQ_sA, gQ_sL, gQ_sD, gL_sI, gL_sR, gL_sA, gL_sQ, gL_sD]; first | done | assumption | with_reducible rfl) | rfl) (by first | with_reducible rfl | assumption | (simp only [nI_add, pk_mul, nI_1]; with_reducible rfl)) (by first | assumption | omega) (by first | assumption | omega) (by first | assumption | exact gI_sIs | exact gR_sRs | with_reducible rfl | (simp only [kd_sI, kd_sR, kd_sA, kd_sQ, kd_sL, kd_sD, ln_sI, ln_sR, ln_sA, ln_sQ, ln_sL, ln_sD, gI_sR, gI_sA, gI_sQ, gI_sL, gI_sD, gR_sI, gR_sA, gR_sQ, gR_sL, gR_sD, gA_sI, gA_sR, gA_sQ, gA_sL, gA_sD, gQ_sI, gQ_sR, gQ_sA, gQ_sL, gQ_sD, gL_sI, gL_sR, gL_sA, gL_sQ, gL_sD]; first | done | assumption | with_reducible rfl) | rfl) ?_
                  refine r_aload_n (i := 2) dX2_fewestDrums_93 rfl rfl ?_
                  refine r_iload dX2_fewestDrums_94 rfl ?_
                  refine r_callV (As := [_]) (mc' := 0) (ms' := 0) dX2_fewestDrums_96 k_X2_110 rfl (by first | assumption | (simp only [kd_sI, kd_sR, kd_sA, kd_sQ, kd_sL, kd_sD, ln_sI, ln_sR, ln_sA, ln_sQ, ln_sL, ln_sD, gI_sR, gI_sA, gI_sQ, gI_sL, gI_sD, gR_sI, gR_sA, gR_sQ, gR_sL, gR_sD, gA_sI, gA_sR, gA_sQ, gA_sL, gA_sD, gQ_sI, gQ_sR, gQ_sA, gQ_sL, gQ_sD, gL_sI, gL_sR, gL_sA, gL_sQ, gL_sD]; assumption) | simp [kd_sI, kd_sR, kd_sA, kd_sQ, kd_sL, kd_sD, ln_sI, ln_sR, ln_sA, ln_sQ, ln_sL, ln_sD, gI_sR, gI_sA, gI_sQ, gI_sL, gI_sD, gR_sI, gR_sA, gR_sQ, gR_sL, gR_sD, gA_sI, gA_sR, gA_sQ, gA_sL, gA_sD, gQ_sI, gQ_sR, gQ_sA, gQ_sL, gQ_sD, gL_sI, gL_sR, gL_sA, gL_sQ, gL_sD, kd_nO, kd_nA, *]) (T := TJ2) (N := 3) rfl (by first | assumption | omega) (by first | assumption | omega) (by first | assumption | omega) (Nat.le_of_ble_eq_true rfl) ?_
                  refine s_get (by omega) hN6.1 (by omega) (by omega) ?_
                  show AW mX2_fewestDrums G d Qr Qx _ _ H6 99 _ _
                  have go : AW mX2_fewestDrums G d Qr Qx 1 6 H6 105 [some (vR (some p)), some (vI y), some (vR (some nL)), some (vR (some rL)), some (vI (nI S)), some (vR (some q22)), some (vI (nI s)), some (vI (nI j))] [vI (nI len), vI (nI v), vI (nI m0), vI (nI s), vR (some q22)] := by
                    refine r_aload_n (i := 3) dX2_fewestDrums_105 rfl rfl ?_
                    refine r_callS (As := [_, _, _]) (mc' := 0) (ms' := 0) dX2_fewestDrums_106 k_X2_305 rfl (by first | assumption | omega) (by first | assumption | omega) (by first | assumption | omega) (Nat.le_of_ble_eq_true rfl) ?_
                    refine pl_behind (by omega) hR6 hdesc (by omega) hrlt hle hlen9 ?_
                    rw [hbv]
                    show AW mX2_fewestDrums G d Qr Qx _ _ H6 109 _ _
                    refine r_mmin dX2_fewestDrums_109 q2396 (by first | assumption | omega) (Nat.le_of_ble_eq_true rfl) ?_
                    have hmin : (if nI bv < nI m0 then nI bv else nI m0) = nI (min m0 bv) := by
                      by_cases h : bv < m0
                      · rw [if_pos (nI_lt h (by omega)), Nat.min_eq_right (by omega)]
                      · rw [if_neg (fun q => h ((nI_ltI (by omega) (by omega)).mp q)), Nat.min_eq_left (by omega)]
                    rw [hmin]
                    refine r_iast dX2_fewestDrums_112 (by first | assumption | (simp only [kd_sI, kd_sR, kd_sA, kd_sQ, kd_sL, kd_sD, ln_sI, ln_sR, ln_sA, ln_sQ, ln_sL, ln_sD, gI_sR, gI_sA, gI_sQ, gI_sL, gI_sD, gR_sI, gR_sA, gR_sQ, gR_sL, gR_sD, gA_sI, gA_sR, gA_sQ, gA_sL, gA_sD, gQ_sI, gQ_sR, gQ_sA, gQ_sL, gQ_sD, gL_sI, gL_sR, gL_sA, gL_sQ, gL_sD]; assumption) | simp [kd_sI, kd_sR, kd_sA, kd_sQ, kd_sL, kd_sD, ln_sI, ln_sR, ln_sA, ln_sQ, ln_sL, ln_sD, gI_sR, gI_sA, gI_sQ, gI_sL, gI_sD, gR_sI, gR_sA, gR_sQ, gR_sL, gR_sD, gA_sI, gA_sR, gA_sQ, gA_sL, gA_sD, gQ_sI, gQ_sR, gQ_sA, gQ_sL, gQ_sD, gL_sI, gL_sR, gL_sA, gL_sQ, gL_sD, kd_nO, kd_nA, *]) (by first | decide | assumption) (by first | assumption | exact gI_sIs | exact gR_sRs | with_reducible rfl | (simp only [kd_sI, kd_sR, kd_sA, kd_sQ, kd_sL, kd_sD, ln_sI, ln_sR, ln_sA, ln_sQ, ln_sL, ln_sD, gI_sR, gI_sA, gI_sQ, gI_sL, gI_sD, gR_sI, gR_sA, gR_sQ, gR_sL, gR_sD, gA_sI, gA_sR, gA_sQ, gA_sL, gA_sD, gQ_sI, gQ_sR, gQ_sA, gQ_sL, gQ_sD, gL_sI, gL_sR, gL_sA, gL_sQ, gL_sD]; first | done | assumption | with_reducible rfl) | rfl) (by first | with_reducible rfl | assumption | (simp only [nI_add, pk_mul, nI_1]; with_reducible rfl)) (by first | assumption | omega) (by first | assumption | omega) ?_
                    refine AW.name (fun H7 hH7 => ?_)
                    have K7' : Ks (fun b => b = q22) H3 H7 := by rw [hH7]; exact K6'.sA (fun _ => rfl)
                    refine r_iinc dX2_fewestDrums_113 rfl (by first | exact nI_1 _ | rfl) (by simp only [lset]; rfl) ?_
                    refine r_goto (tgt := 52) dX2_fewestDrums_116 (by decide) ?_
                    refine ih9 (j + 1) H7 (by omega) K7' (by rw [hH7]; exact lq6) (fun i hi => ?_) ?_
                    · rw [hH7, gA_sAs, upd_n (by omega)]
                      exact hT6 i hi
                    · rw [hH7, gA_sAs, upd_s, hstep']
                  rcases hvj with ⟨j9, hj9, ej9, hv9⟩ | ⟨k26, f121⟩
                  · rw [ej9]
                    refine r_castI dX2_fewestDrums_99 (by first | assumption | omega) (by first | assumption | exact gI_sIs | exact gR_sRs | with_reducible rfl | (simp only [kd_sI, kd_sR, kd_sA, kd_sQ, kd_sL, kd_sD, ln_sI, ln_sR, ln_sA, ln_sQ, ln_sL, ln_sD, gI_sR, gI_sA, gI_sQ, gI_sL, gI_sD, gR_sI, gR_sA, gR_sQ, gR_sL, gR_sD, gA_sI, gA_sR, gA_sQ, gA_sL, gA_sD, gQ_sI, gQ_sR, gQ_sA, gQ_sL, gQ_sD, gL_sI, gL_sR, gL_sA, gL_sQ, gL_sD]; first | done | assumption | with_reducible rfl) | rfl) q1052 (Or.inl rfl) ?_
                    refine r_callVI (As := []) (mc' := 0) (ms' := 0) (j9 := j9) dX2_fewestDrums_102 k_X2_117 rfl rfl (by first | assumption | omega) rfl (by first | assumption | omega) (by first | assumption | omega) (by first | assumption | omega) (Nat.le_of_ble_eq_true rfl) ?_
                    refine s_intValue (Or.inl ⟨j9, hj9, rfl, hv9⟩) ?_
                    exact go
                  · refine r_cast dX2_fewestDrums_99 (by first | assumption | (simp only [kd_sI, kd_sR, kd_sA, kd_sQ, kd_sL, kd_sD, ln_sI, ln_sR, ln_sA, ln_sQ, ln_sL, ln_sD, gI_sR, gI_sA, gI_sQ, gI_sL, gI_sD, gR_sI, gR_sA, gR_sQ, gR_sL, gR_sD, gA_sI, gA_sR, gA_sQ, gA_sL, gA_sD, gQ_sI, gQ_sR, gQ_sA, gQ_sL, gQ_sD, gL_sI, gL_sR, gL_sA, gL_sQ, gL_sD]; assumption) | simp [kd_sI, kd_sR, kd_sA, kd_sQ, kd_sL, kd_sD, ln_sI, ln_sR, ln_sA, ln_sQ, ln_sL, ln_sD, gI_sR, gI_sA, gI_sQ, gI_sL, gI_sD, gR_sI, gR_sA, gR_sQ, gR_sL, gR_sD, gA_sI, gA_sR, gA_sQ, gA_sL, gA_sD, gQ_sI, gQ_sR, gQ_sA, gQ_sL, gQ_sD, gL_sI, gL_sR, gL_sA, gL_sQ, gL_sD, kd_nO, kd_nA, *]) (T := TJ19) (N := 1) rfl q1052 (Or.inl rfl) ?_
                    refine r_callV (As := []) (mc' := 0) (ms' := 0) dX2_fewestDrums_102 k_X2_117 rfl (by first | assumption | (simp only [kd_sI, kd_sR, kd_sA, kd_sQ, kd_sL, kd_sD, ln_sI, ln_sR, ln_sA, ln_sQ, ln_sL, ln_sD, gI_sR, gI_sA, gI_sQ, gI_sL, gI_sD, gR_sI, gR_sA, gR_sQ, gR_sL, gR_sD, gA_sI, gA_sR, gA_sQ, gA_sL, gA_sD, gQ_sI, gQ_sR, gQ_sA, gQ_sL, gQ_sD, gL_sI, gL_sR, gL_sA, gL_sQ, gL_sD]; assumption) | simp [kd_sI, kd_sR, kd_sA, kd_sQ, kd_sL, kd_sD, ln_sI, ln_sR, ln_sA, ln_sQ, ln_sL, ln_sD, gI_sR, gI_sA, gI_sQ, gI_sL, gI_sD, gR_sI, gR_sA, gR_sQ, gR_sL, gR_sD, gA_sI, gA_sR, gA_sQ, gA_sL, gA_sD, gQ_sI, gQ_sR, gQ_sA, gQ_sL, gQ_sD, gL_sI, gL_sR, gL_sA, gL_sQ, gL_sD, kd_nO, kd_nA, *]) (T := TJ19) (N := 1) rfl (by first | assumption | omega) (by first | assumption | omega) (by first | assumption | omega) (Nat.le_of_ble_eq_true rfl) ?_
                    refine s_intValue (Or.inr ⟨k26, f121⟩) ?_
                    exact go
        refine r_iconst (v := nI 0) dX2_fewestDrums_49 (by decide) ?_
        refine r_istore dX2_fewestDrums_50 (Nat.le_of_ble_eq_true rfl) (by simp only [lset]; rfl) ?_
        refine inner n 0 H5 (by omega) K5' (by rw [hH5]; exact lq4) (fun i hi => ?_) ?_
        · rw [hH5, gA_sAs, upd_n (by omega)]
          exact hT4 i hi
        · rw [hH5, gA_sAs, upd_s]
          show nI (10000 * R) = nI (10000 * rs.length)
          rw [hR]
  exact AW.weaken (rc' := 1) (rs' := 6) (by omega) (by omega) (outer (S - 1) 1 H3 _ (by omega) (by omega) Ks.rf lq3 (fun i hi => by rw [gq3 i]; rfl))
end Few
