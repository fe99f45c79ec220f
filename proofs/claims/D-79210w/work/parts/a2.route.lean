set_option maxRecDepth 100000
/-! A CABLE IS ROUTED, FREED, SCRAPPED -/
theorem bUp_some {row : List Nat} {s : Int32} {b : Best} : (bUp row s b).isSome = true := by
  unfold bUp
  cases b with
  | none => rfl
  | some q =>
    obtain ⟨r0, s0⟩ := q
    dsimp only
    split <;> rfl
theorem dfs_some {g : Nat → Int32} {op : Nat → Bool} {to : Nat} : ∀ (f p mask : Nat) (row : List Nat) (s : Int32) (b : Best), b.isSome = true → (dfs g op to f p mask row s b).isSome = true := by
  intro f
  induction f with
  | zero => intro p mask row s b h; exact h
  | succ f ih =>
    intro p mask row s b h
    have sc : ∀ (n t0 : Nat) (b : Best), b.isSome = true → (scan (dfsStep (dfs g op to f) g op to p mask row s) t0 n b).isSome = true := by
      intro n
      induction n with
      | zero => intro t0 b h; exact h
      | succ n ihn =>
        intro t0 b h
        refine ihn (t0 + 1) _ ?_
        unfold dfsStep
        cases ed g t0 p with
        | none => exact h
        | some o =>
          dsimp only
          split
          · exact h
          · split
            · exact bUp_some
            · exact ih _ _ _ _ _ h
    exact sc (nat g 40) 0 b h
theorem dfs_mono {g : Nat → Int32} {op op' : Nat → Bool} {to : Nat} (ho : ∀ t, op t = true → op' t = true) : ∀ (f p mask : Nat) (row row' : List Nat) (s s' : Int32) (b b' : Best), (b.isSome = true → b'.isSome = true) → (dfs g op to f p mask row s b).isSome = true → (dfs g op' to f p mask row' s' b').isSome = true := by
  intro f
  induction f with
  | zero => intro p mask row row' s s' b b' h q; exact h q
  | succ f ih =>
    intro p mask row row' s s' b b' h
    have sc : ∀ (n t0 : Nat) (b b' : Best), (b.isSome = true → b'.isSome = true) → (scan (dfsStep (dfs g op to f) g op to p mask row s) t0 n b).isSome = true → (scan (dfsStep (dfs g op' to f) g op' to p mask row' s') t0 n b').isSome = true := by
      intro n
      induction n with
      | zero => intro t0 b b' h q; exact h q
      | succ n ihn =>
        intro t0 b b' h
        refine ihn (t0 + 1) _ _ ?_
        unfold dfsStep
        cases ed g t0 p with
        | none => exact h
        | some o =>
          dsimp only
          cases hm : mask.testBit o with
          | true => simpa using h
          | false =>
            cases h1 : op t0 with
            | true =>
              rw [ho t0 h1]
              simp only [Bool.not_true, Bool.or_false, Bool.false_eq_true, if_false]
              by_cases h4 : o = to
              · rw [if_pos h4, if_pos h4]
                exact fun _ => bUp_some
              · rw [if_neg h4, if_neg h4]
                exact ih _ _ _ _ _ _ _ _ h
            | false =>
              simp only [Bool.not_false, Bool.or_true, if_true]
              intro q
              split
              · exact h q
              · split
                · exact bUp_some
                · exact dfs_some _ _ _ _ _ _ (h q)
    exact sc (nat g 40) 0 b b' h
theorem wayB_mono {g : Nat → Int32} {ty : Option Nat} {fr to : Nat} (h : wayB g none fr to = none) : wayB g ty fr to = none := by
  cases hw : wayB g ty fr to with
  | none => rfl
  | some q =>
    have h1 : (wayB g none fr to).isSome = true := dfs_mono (op := opB g ty) (fun t _ => rfl) 7 fr (2 ^ fr) [] [] (nI 0) (nI 0) none none (fun h => h) (by
      show (wayB g ty fr to).isSome = true
      rw [hw]
      rfl)
    rw [h] at h1
    cases h1
/-- the chain of a refused route -/
def rtL (g : Nat → Int32) (c : Int32) : Option (List Int32) := if isC g c = false then some [nI 1, c] else if g (105 + 21 * c.toNatClampNeg) = 0 then (match wayB g (some (nat g (102 + 21 * c.toNatClampNeg))) (nat g (103 + 21 * c.toNatClampNeg)) (nat g (104 + 21 * c.toNatClampNeg)) with
    | none => some (q_refuse g c.toNatClampNeg)
    | some _ => none) else some [nI 2, g (105 + 21 * c.toNatClampNeg)]
section Route
variable {G : Gl} {d : Nat} {Qr : Option AV → AH → Prop} {Qx : String → Nat → AH → Prop} {H : AH} {O : Nat → Nat} {p t : Nat} {A : PA} {g : Nat → Int32} {eT eR eC eD : Nat} {ty nm nd tr tc tf tu ca rl re dr : Nat → Nat} {st : Nat → Nat → Nat}
theorem PW.mk {l1 l2 l3 l4 l5 : Nat} (h1 : PlF H O l1 p A.ty A.M A.tr A.ca A.dr (g 0) (g 1) (g 2)) (h2 : TyX G H O l2 A.ty A.M (nat g 3) g eT ty nm nd) (h3 : TrX G H O l3 A.tr (nat g 40) (tvOf g) eR tr tc tf tu) (h4 : CaX G H O l4 A.ca (nat g 101) (cvOf g) eC ca rl re st) (h5 : DrX G H O l5 A.dr (nat g 354) (dvOf g) eD dr) : PW G H p A g eT ty eR tr tc tf tu eC ca rl re st eD dr := by
  refine ⟨h1.1, ⟨h2.1, fun y hy => ?_⟩, ⟨h3.1, fun t ht => (h3.2.2.2.1 t ht).1⟩, ⟨h4.1, fun c hc => ?_⟩, ⟨h5.1, fun x hx => ?_⟩⟩
  · obtain ⟨k, -⟩ := h2.2.2.2.2.2 y hy
    exact ⟨k.1, k.2.2.1, k.2.2.2⟩
  · have k := (h4.2.2.2.1 c hc).1
    have e : (cvOf g c 4).toNatClampNeg = nat g (106 + 21 * c) := by
      unfold cvOf nat
      rw [show 102 + 21 * c + 4 = 106 + 21 * c by omega]
    rw [e] at k
    exact k
  · have k := (h5.2.2.2.1 x hx).1
    have e1 : dvOf g x 1 = g (356 + 3 * x) := by unfold dvOf; rw [show 355 + 3 * x + 1 = 356 + 3 * x by omega]
    have e2 : dvOf g x 2 = g (357 + 3 * x) := by unfold dvOf; rw [show 355 + 3 * x + 2 = 357 + 3 * x by omega]
    rw [e1, e2] at k
    exact k
theorem pl_route {c : Int32} (hd : 20 ≤ d) (hP : IsP G H O t p A g) (hI : IG g) (hQ : ∀ c0 r s, c = nI c0 → c0 < nat g 101 → isC g c = true → g (105 + 21 * c0) = 0 → wayB g (some (nat g (102 + 21 * c0))) (nat g (103 + 21 * c0)) (nat g (104 + 21 * c0)) = some (r, s) → ∀ H' O', Stq G (fun b => O b / 8 = t) H O H' O' → IsPlan G H' O' t p (routeG g c0 r) → Qr (some (vI (q_need (routeG g c0 r) c0))) H') (hX : ∀ H' r l E, Ks (fun _ => False) H H' → ChO H' (fun b => kd H b = 0) l (some r) → ((E = "CableTrayPlanner$Refusal" ∧ kd H' r = 9) ∨ (E = "CableTrayPlanner$NoRoom" ∧ kd H' r = 10)) → rtL g c = some l → Qx E r H') : AMet G d 16406 98534 yX2_route wX2_route H [vR (some p), vI c] Qr Qx := by
  have hP9 := hP
  obtain ⟨t0, h1, ⟨eT, ty, nm, nd, h2⟩, ⟨eR, tr, tc, tf, tu, h3⟩, ⟨eC, ca, rl, re, st, h4⟩, ⟨eD, dr, h5⟩⟩ := hP
  have hW := PW.mk h1 h2 h3 h4 h5
  have hB := hI.1
  have hGT := hI.2.1
  have hGC := hI.2.2.1
  have hGA := hI.2.2.2.1
  have hV7 := hI.2.2.2.2.2.2.1
  have hYY := hI.2.2.2.2.2.2.2.1
  have h40 := hB.2.1.2
  have h101 := hB.2.2.1.2
  have h36 := hB.1.2
  obtain ⟨eV, trV, tcV, tfV, tuV, hV⟩ := PlV.of hP9
  obtain ⟨⟨p1, p8, p9, p10, p11, p12, p13, p14, p15⟩, pO⟩ := h1
  refine AMet.of (M := mX2_route) (maxL := 5) (by first | rfl | decide +kernel) rfl (Nat.le_of_ble_eq_true rfl) ?_
  show AW mX2_route _ _ _ _ _ _ _ 0 [some (vR (some p)), some (vI c), none, none, none] []
  refine r_aload_n (i := 0) dX2_route_0 rfl rfl ?_
  refine r_iload_n (i := 1) dX2_route_1 rfl rfl ?_
  refine r_iconst (v := nI 0) dX2_route_2 (by decide) ?_
  refine r_callV (As := [_, _]) (mc' := 3) (ms' := 16) dX2_route_3 k_X2_231 rfl (by first | assumption | (simp only [kd_sI, kd_sR, kd_sA, kd_sQ, kd_sL, kd_sD, ln_sI, ln_sR, ln_sA, ln_sQ, ln_sL, ln_sD, gI_sR, gI_sA, gI_sQ, gI_sL, gI_sD, gR_sI, gR_sA, gR_sQ, gR_sL, gR_sD, gA_sI, gA_sR, gA_sQ, gA_sL, gA_sD, gQ_sI, gQ_sR, gQ_sA, gQ_sL, gQ_sD, gL_sI, gL_sR, gL_sA, gL_sQ, gL_sD]; assumption) | simp [kd_sI, kd_sR, kd_sA, kd_sQ, kd_sL, kd_sD, ln_sI, ln_sR, ln_sA, ln_sQ, ln_sL, ln_sD, gI_sR, gI_sA, gI_sQ, gI_sL, gI_sD, gR_sI, gR_sA, gR_sQ, gR_sL, gR_sD, gA_sI, gA_sR, gA_sQ, gA_sL, gA_sD, gQ_sI, gQ_sR, gQ_sA, gQ_sL, gQ_sD, gL_sI, gL_sR, gL_sA, gL_sQ, gL_sD, kd_nO, kd_nA, *]) (T := TX2) (N := 8) rfl (by first | assumption | omega) (by first | assumption | omega) (by first | assumption | omega) (Nat.le_of_ble_eq_true rfl) ?_
  refine pl_change (by omega) hW hI (fun hc i hi ec es => ?_) (fun H' r l K C k9 hl => x_out (by decide) (hX H' r l _ K C (Or.inl ⟨rfl, k9⟩) ?_))
  · subst ec
    have kx := (h4.2.2.2.1 i hi).1.1
    obtain ⟨y, hy⟩ : ∃ y, nat g (102 + 21 * i) = y := ⟨_, rfl⟩
    have hy3 : y < nat g 3 := by rw [← hy]; exact (hB.2.2.2.2.2 i hi).1.2
    obtain ⟨fr, hfr⟩ : ∃ fr, nat g (103 + 21 * i) = fr := ⟨_, rfl⟩
    obtain ⟨to, hto⟩ : ∃ to, nat g (104 + 21 * i) = to := ⟨_, rfl⟩
    obtain ⟨⟨gc1, gc2⟩, ⟨gc3, gc4⟩, gc5⟩ := hGC i hi
    rw [hfr] at gc1 gc2 gc5
    rw [hto] at gc3 gc4 gc5
    have e23 : cvOf g i 0 = nI y := by rw [cv_at i (102 + 21 * i) (by omega), ← hy]; exact (hB.2.2.2.2.2 i hi).1.1
    have e24 : cvOf g i 1 = nI fr := by rw [cv_at i (103 + 21 * i) (by omega), gc1]
    have e25 : cvOf g i 2 = nI to := by rw [cv_at i (104 + 21 * i) (by omega), gc3]
    have kc := kx.1
    have f23 : gI H 23 (ca i) = nI y := kx.2.1.trans e23
    have f24 : gI H 24 (ca i) = nI fr := kx.2.2.1.trans e24
    have f25 : gI H 25 (ca i) = nI to := kx.2.2.2.1.trans e25
    have hci : (nI i).toNatClampNeg = i := nI_clamp (by omega)
    have hwF : ∀ op, wayF g op fr to = dfs g op to 7 fr (2 ^ fr) [] (nI 0) none := fun op => by unfold wayF; rw [if_neg gc5]
    have hrl : rtL g (nI i) = match wayB g (some y) fr to with
      | none => some (q_refuse g i)
      | some _ => none := by
      unfold rtL
      rw [hc, if_neg (by decide), hci, if_pos (show g (105 + 21 * i) = 0 from es), hy, hfr, hto]
    show AW mX2_route G d Qr Qx _ _ H 6 _ _
    have kyT := h2.1.1
    refine r_astore_n (i := 2) dX2_route_6 rfl (Nat.le_of_ble_eq_true rfl) (by simp only [lset]; rfl) ?_
    refine r_aload_n (i := 0) dX2_route_7 rfl rfl ?_
    refine r_getR dX2_route_8 fR_X2_12 (by first | assumption | (simp only [kd_sI, kd_sR, kd_sA, kd_sQ, kd_sL, kd_sD, ln_sI, ln_sR, ln_sA, ln_sQ, ln_sL, ln_sD, gI_sR, gI_sA, gI_sQ, gI_sL, gI_sD, gR_sI, gR_sA, gR_sQ, gR_sL, gR_sD, gA_sI, gA_sR, gA_sQ, gA_sL, gA_sD, gQ_sI, gQ_sR, gQ_sA, gQ_sL, gQ_sD, gL_sI, gL_sR, gL_sA, gL_sQ, gL_sD]; assumption) | simp [kd_sI, kd_sR, kd_sA, kd_sQ, kd_sL, kd_sD, ln_sI, ln_sR, ln_sA, ln_sQ, ln_sL, ln_sD, gI_sR, gI_sA, gI_sQ, gI_sL, gI_sD, gR_sI, gR_sA, gR_sQ, gR_sL, gR_sD, gA_sI, gA_sR, gA_sQ, gA_sL, gA_sD, gQ_sI, gQ_sR, gQ_sA, gQ_sL, gQ_sD, gL_sI, gL_sR, gL_sA, gL_sQ, gL_sD, kd_nO, kd_nA, *]) (by first | assumption | exact gI_sIs | exact gR_sRs | with_reducible rfl | (simp only [kd_sI, kd_sR, kd_sA, kd_sQ, kd_sL, kd_sD, ln_sI, ln_sR, ln_sA, ln_sQ, ln_sL, ln_sD, gI_sR, gI_sA, gI_sQ, gI_sL, gI_sD, gR_sI, gR_sA, gR_sQ, gR_sL, gR_sD, gA_sI, gA_sR, gA_sQ, gA_sL, gA_sD, gQ_sI, gQ_sR, gQ_sA, gQ_sL, gQ_sD, gL_sI, gL_sR, gL_sA, gL_sQ, gL_sD]; first | done | assumption | with_reducible rfl) | rfl) ?_
    refine r_aload_n (i := 2) dX2_route_11 rfl rfl ?_
    refine r_getI dX2_route_12 fR_X2_235 (by first | assumption | (simp only [kd_sI, kd_sR, kd_sA, kd_sQ, kd_sL, kd_sD, ln_sI, ln_sR, ln_sA, ln_sQ, ln_sL, ln_sD, gI_sR, gI_sA, gI_sQ, gI_sL, gI_sD, gR_sI, gR_sA, gR_sQ, gR_sL, gR_sD, gA_sI, gA_sR, gA_sQ, gA_sL, gA_sD, gQ_sI, gQ_sR, gQ_sA, gQ_sL, gQ_sD, gL_sI, gL_sR, gL_sA, gL_sQ, gL_sD]; assumption) | simp [kd_sI, kd_sR, kd_sA, kd_sQ, kd_sL, kd_sD, ln_sI, ln_sR, ln_sA, ln_sQ, ln_sL, ln_sD, gI_sR, gI_sA, gI_sQ, gI_sL, gI_sD, gR_sI, gR_sA, gR_sQ, gR_sL, gR_sD, gA_sI, gA_sR, gA_sQ, gA_sL, gA_sD, gQ_sI, gQ_sR, gQ_sA, gQ_sL, gQ_sD, gL_sI, gL_sR, gL_sA, gL_sQ, gL_sD, kd_nO, kd_nA, *]) (by first | assumption | exact gI_sIs | exact gR_sRs | with_reducible rfl | (simp only [kd_sI, kd_sR, kd_sA, kd_sQ, kd_sL, kd_sD, ln_sI, ln_sR, ln_sA, ln_sQ, ln_sL, ln_sD, gI_sR, gI_sA, gI_sQ, gI_sL, gI_sD, gR_sI, gR_sA, gR_sQ, gR_sL, gR_sD, gA_sI, gA_sR, gA_sQ, gA_sL, gA_sD, gQ_sI, gQ_sR, gQ_sA, gQ_sL, gQ_sD, gL_sI, gL_sR, gL_sA, gL_sQ, gL_sD]; first | done | assumption | with_reducible rfl) | rfl) ?_
    refine r_callV (As := [_]) (mc' := 0) (ms' := 0) dX2_route_15 k_X2_110 rfl (by first | assumption | (simp only [kd_sI, kd_sR, kd_sA, kd_sQ, kd_sL, kd_sD, ln_sI, ln_sR, ln_sA, ln_sQ, ln_sL, ln_sD, gI_sR, gI_sA, gI_sQ, gI_sL, gI_sD, gR_sI, gR_sA, gR_sQ, gR_sL, gR_sD, gA_sI, gA_sR, gA_sQ, gA_sL, gA_sD, gQ_sI, gQ_sR, gQ_sA, gQ_sL, gQ_sD, gL_sI, gL_sR, gL_sA, gL_sQ, gL_sD]; assumption) | simp [kd_sI, kd_sR, kd_sA, kd_sQ, kd_sL, kd_sD, ln_sI, ln_sR, ln_sA, ln_sQ, ln_sL, ln_sD, gI_sR, gI_sA, gI_sQ, gI_sL, gI_sD, gR_sI, gR_sA, gR_sQ, gR_sL, gR_sD, gA_sI, gA_sR, gA_sQ, gA_sL, gA_sD, gQ_sI, gQ_sR, gQ_sA, gQ_sL, gQ_sD, gL_sI, gL_sR, gL_sA, gL_sQ, gL_sD, kd_nO, kd_nA, *]) (T := TJ2) (N := 3) rfl (by first | assumption | omega) (by first | assumption | omega) (by first | assumption | omega) (Nat.le_of_ble_eq_true rfl) ?_
    refine s_get (by omega) h2.1 hy3 (by omega) ?_
    have kyo := (h2.2.2.2.2.2 y hy3)
    have kyk := kyo.1.1
    show AW mX2_route G d Qr Qx _ _ H 18 _ _
    refine r_cast dX2_route_18 (by first | assumption | (simp only [kd_sI, kd_sR, kd_sA, kd_sQ, kd_sL, kd_sD, ln_sI, ln_sR, ln_sA, ln_sQ, ln_sL, ln_sD, gI_sR, gI_sA, gI_sQ, gI_sL, gI_sD, gR_sI, gR_sA, gR_sQ, gR_sL, gR_sD, gA_sI, gA_sR, gA_sQ, gA_sL, gA_sD, gQ_sI, gQ_sR, gQ_sA, gQ_sL, gQ_sD, gL_sI, gL_sR, gL_sA, gL_sQ, gL_sD]; assumption) | simp [kd_sI, kd_sR, kd_sA, kd_sQ, kd_sL, kd_sD, ln_sI, ln_sR, ln_sA, ln_sQ, ln_sL, ln_sD, gI_sR, gI_sA, gI_sQ, gI_sL, gI_sD, gR_sI, gR_sA, gR_sQ, gR_sL, gR_sD, gA_sI, gA_sR, gA_sQ, gA_sL, gA_sD, gQ_sI, gQ_sR, gQ_sA, gQ_sL, gQ_sD, gL_sI, gL_sR, gL_sA, gL_sQ, gL_sD, kd_nO, kd_nA, *]) (T := TX19) (N := 3) rfl q1254 (Or.inl rfl) ?_
    refine r_astore_n (i := 3) dX2_route_21 rfl (Nat.le_of_ble_eq_true rfl) (by simp only [lset]; rfl) ?_
    refine r_new dX2_route_22 cT_X11 q1897 q1898 q128 (by decide +kernel) (by first | assumption | omega) (by first | assumption | omega) (fun q22 hq22 => ?_)
    have hq : kd H q22 = 0 := hq22
    refine AW.name (fun H1 hH1 => ?_)
    have K1 : Ks (fun _ => False) H H1 := by rw [hH1]; exact Ks.rf.nO hq
    have kq : kd H1 q22 = 11 := by rw [hH1, kd_nO, if_pos rfl]
    have i48 : gI H1 48 q22 = 0 := by rw [hH1, gI_nO, if_pos rfl]
    have r50 : gR H1 50 q22 = none := by rw [hH1, gR_nO, if_pos rfl]
    have x1 := K1.at (a := ca i) (by rw [kc]; decide) (fun h => h)
    have kc1 : kd H1 (ca i) = 4 := by rw [at_kd x1]; exact kc
    have f241 : gI H1 24 (ca i) = nI fr := by rw [at_gI x1]; exact f24
    have f251 : gI H1 25 (ca i) = nI to := by rw [at_gI x1]; exact f25
    refine r_dup dX2_route_25 rfl ?_
    refine r_aload_n (i := 0) dX2_route_26 rfl rfl ?_
    refine r_null dX2_route_27 ?_
    refine r_aload_n (i := 2) dX2_route_28 rfl rfl ?_
    refine r_getI dX2_route_29 fR_X2_237 (by first | assumption | (simp only [kd_sI, kd_sR, kd_sA, kd_sQ, kd_sL, kd_sD, ln_sI, ln_sR, ln_sA, ln_sQ, ln_sL, ln_sD, gI_sR, gI_sA, gI_sQ, gI_sL, gI_sD, gR_sI, gR_sA, gR_sQ, gR_sL, gR_sD, gA_sI, gA_sR, gA_sQ, gA_sL, gA_sD, gQ_sI, gQ_sR, gQ_sA, gQ_sL, gQ_sD, gL_sI, gL_sR, gL_sA, gL_sQ, gL_sD]; assumption) | simp [kd_sI, kd_sR, kd_sA, kd_sQ, kd_sL, kd_sD, ln_sI, ln_sR, ln_sA, ln_sQ, ln_sL, ln_sD, gI_sR, gI_sA, gI_sQ, gI_sL, gI_sD, gR_sI, gR_sA, gR_sQ, gR_sL, gR_sD, gA_sI, gA_sR, gA_sQ, gA_sL, gA_sD, gQ_sI, gQ_sR, gQ_sA, gQ_sL, gQ_sD, gL_sI, gL_sR, gL_sA, gL_sQ, gL_sD, kd_nO, kd_nA, *]) (by first | assumption | exact gI_sIs | exact gR_sRs | with_reducible rfl | (simp only [kd_sI, kd_sR, kd_sA, kd_sQ, kd_sL, kd_sD, ln_sI, ln_sR, ln_sA, ln_sQ, ln_sL, ln_sD, gI_sR, gI_sA, gI_sQ, gI_sL, gI_sD, gR_sI, gR_sA, gR_sQ, gR_sL, gR_sD, gA_sI, gA_sR, gA_sQ, gA_sL, gA_sD, gQ_sI, gQ_sR, gQ_sA, gQ_sL, gQ_sD, gL_sI, gL_sR, gL_sA, gL_sQ, gL_sD]; first | done | assumption | with_reducible rfl) | rfl) ?_
    refine r_aload_n (i := 2) dX2_route_32 rfl rfl ?_
    refine r_getI dX2_route_33 fR_X2_240 (by first | assumption | (simp only [kd_sI, kd_sR, kd_sA, kd_sQ, kd_sL, kd_sD, ln_sI, ln_sR, ln_sA, ln_sQ, ln_sL, ln_sD, gI_sR, gI_sA, gI_sQ, gI_sL, gI_sD, gR_sI, gR_sA, gR_sQ, gR_sL, gR_sD, gA_sI, gA_sR, gA_sQ, gA_sL, gA_sD, gQ_sI, gQ_sR, gQ_sA, gQ_sL, gQ_sD, gL_sI, gL_sR, gL_sA, gL_sQ, gL_sD]; assumption) | simp [kd_sI, kd_sR, kd_sA, kd_sQ, kd_sL, kd_sD, ln_sI, ln_sR, ln_sA, ln_sQ, ln_sL, ln_sD, gI_sR, gI_sA, gI_sQ, gI_sL, gI_sD, gR_sI, gR_sA, gR_sQ, gR_sL, gR_sD, gA_sI, gA_sR, gA_sQ, gA_sL, gA_sD, gQ_sI, gQ_sR, gQ_sA, gQ_sL, gQ_sD, gL_sI, gL_sR, gL_sA, gL_sQ, gL_sD, kd_nO, kd_nA, *]) (by first | assumption | exact gI_sIs | exact gR_sRs | with_reducible rfl | (simp only [kd_sI, kd_sR, kd_sA, kd_sQ, kd_sL, kd_sD, ln_sI, ln_sR, ln_sA, ln_sQ, ln_sL, ln_sD, gI_sR, gI_sA, gI_sQ, gI_sL, gI_sD, gR_sI, gR_sA, gR_sQ, gR_sL, gR_sD, gA_sI, gA_sR, gA_sQ, gA_sL, gA_sD, gQ_sI, gQ_sR, gQ_sA, gQ_sL, gQ_sD, gL_sI, gL_sR, gL_sA, gL_sQ, gL_sD]; first | done | assumption | with_reducible rfl) | rfl) ?_
    refine r_callI (As := [_, _, _, _]) (mc' := 8193) (ms' := 49164) dX2_route_36 k_X2_184 rfl (by first | assumption | omega) (by first | assumption | omega) (by first | assumption | omega) (Nat.le_of_ble_eq_true rfl) ?_
    refine c_searchInit (op := opB g none) (by omega) hGT rfl (fun t ht => (hV7.2.2 t ht).1) gc2 gc4 (hV.ks K1 (fun _ _ h => h.elim)) OpR.no kq i48 r50 (fun H2 ra K2 hra hS2 => ?_)
    have K12 : Ks (fun _ => False) H H2 := K1.tr2 K2 (fun a ha e => by rw [e] at ha; exact ha hq)
    have kq2 : kd H2 q22 = 11 := hS2.1.1
    show AW mX2_route G d Qr Qx _ _ H2 39 _ _
    refine r_callV (As := []) (mc' := 0) (ms' := 0) dX2_route_39 k_X2_187 rfl (by first | assumption | (simp only [kd_sI, kd_sR, kd_sA, kd_sQ, kd_sL, kd_sD, ln_sI, ln_sR, ln_sA, ln_sQ, ln_sL, ln_sD, gI_sR, gI_sA, gI_sQ, gI_sL, gI_sD, gR_sI, gR_sA, gR_sQ, gR_sL, gR_sD, gA_sI, gA_sR, gA_sQ, gA_sL, gA_sD, gQ_sI, gQ_sR, gQ_sA, gQ_sL, gQ_sD, gL_sI, gL_sR, gL_sA, gL_sQ, gL_sD]; assumption) | simp [kd_sI, kd_sR, kd_sA, kd_sQ, kd_sL, kd_sD, ln_sI, ln_sR, ln_sA, ln_sQ, ln_sL, ln_sD, gI_sR, gI_sA, gI_sQ, gI_sL, gI_sD, gR_sI, gR_sA, gR_sQ, gR_sL, gR_sD, gA_sI, gA_sR, gA_sQ, gA_sL, gA_sD, gQ_sI, gQ_sR, gQ_sA, gQ_sL, gQ_sD, gL_sI, gL_sR, gL_sA, gL_sQ, gL_sD, kd_nO, kd_nA, *]) (T := TX11) (N := 9) rfl (by first | assumption | omega) (by first | assumption | omega) (by first | assumption | omega) (Nat.le_of_ble_eq_true rfl) ?_
    refine c_isFound hS2 ?_
    show AW mX2_route G d Qr Qx _ _ H2 42 _ _
    have x2 := K12.at (a := ca i) (by rw [kc]; decide) (fun h => h)
    have kc2 : kd H2 (ca i) = 4 := by rw [at_kd x2]; exact kc
    have f242 : gI H2 24 (ca i) = nI fr := by rw [at_gI x2]; exact f24
    have f252 : gI H2 25 (ca i) = nI to := by rw [at_gI x2]; exact f25
    rw [hwF]
    cases hw0 : dfs g (opB g none) to 7 fr (2 ^ fr) [] (nI 0) none with
    | none =>
      have hwn : wayB g none fr to = none := hw0
      rw [wayB_mono hwn] at hrl
      have hrf : q_refuse g i = [nI 3, nI fr, nI to] := by
        unfold q_refuse
        rw [hfr, hto, hwn, gc1, gc3]
      refine r_if_ne (tgt := 71) dX2_route_42 (by decide) (fun h42 => ?_) (fun h42 => ?_)
      · exact absurd rfl h42
      · refine r_iconst (v := nI 0) dX2_route_45 (by decide) ?_
        refine r_iconst (v := nI 3) dX2_route_46 (by decide) ?_
        refine r_new_int 1010 dX2_route_47 q1480 (by decide) (by first | with_reducible rfl | assumption | (simp only [nI_add, pk_mul, nI_1]; with_reducible rfl)) (by first | assumption | omega) (by first | assumption | omega) (by first | assumption | omega) (fun q47 hq47 => ?_)
        have hqa : kd H2 q47 = 0 := hq47
        refine AW.name (fun H3 hH3 => ?_)
        have K3 : Ks (fun _ => False) H2 H3 := by rw [hH3]; exact Ks.rf.nA hqa
        have x3 := K3.at (a := ca i) (by rw [kc2]; decide) (fun h => h)
        have kc3 : kd H3 (ca i) = 4 := by rw [at_kd x3]; exact kc2
        have f243 : gI H3 24 (ca i) = nI fr := by rw [at_gI x3]; exact f242
        have f253 : gI H3 25 (ca i) = nI to := by rw [at_gI x3]; exact f252
        have kq3 : kd H3 q47 = 1010 := by rw [hH3, kd_nA, if_pos rfl]
        have lq3 : ln H3 q47 = 3 := by rw [hH3, ln_nA, if_pos rfl]
        refine r_dup dX2_route_49 rfl ?_
        refine r_iconst (v := nI 0) dX2_route_50 (by decide) ?_
        refine r_iconst (v := nI 3) dX2_route_51 (by decide) ?_
        refine r_iast dX2_route_52 (by first | assumption | (simp only [kd_sI, kd_sR, kd_sA, kd_sQ, kd_sL, kd_sD, ln_sI, ln_sR, ln_sA, ln_sQ, ln_sL, ln_sD, gI_sR, gI_sA, gI_sQ, gI_sL, gI_sD, gR_sI, gR_sA, gR_sQ, gR_sL, gR_sD, gA_sI, gA_sR, gA_sQ, gA_sL, gA_sD, gQ_sI, gQ_sR, gQ_sA, gQ_sL, gQ_sD, gL_sI, gL_sR, gL_sA, gL_sQ, gL_sD]; assumption) | simp [kd_sI, kd_sR, kd_sA, kd_sQ, kd_sL, kd_sD, ln_sI, ln_sR, ln_sA, ln_sQ, ln_sL, ln_sD, gI_sR, gI_sA, gI_sQ, gI_sL, gI_sD, gR_sI, gR_sA, gR_sQ, gR_sL, gR_sD, gA_sI, gA_sR, gA_sQ, gA_sL, gA_sD, gQ_sI, gQ_sR, gQ_sA, gQ_sL, gQ_sD, gL_sI, gL_sR, gL_sA, gL_sQ, gL_sD, kd_nO, kd_nA, *]) (by first | decide | assumption) (by first | assumption | exact gI_sIs | exact gR_sRs | with_reducible rfl | (simp only [kd_sI, kd_sR, kd_sA, kd_sQ, kd_sL, kd_sD, ln_sI, ln_sR, ln_sA, ln_sQ, ln_sL, ln_sD, gI_sR, gI_sA, gI_sQ, gI_sL, gI_sD, gR_sI, gR_sA, gR_sQ, gR_sL, gR_sD, gA_sI, gA_sR, gA_sQ, gA_sL, gA_sD, gQ_sI, gQ_sR, gQ_sA, gQ_sL, gQ_sD, gL_sI, gL_sR, gL_sA, gL_sQ, gL_sD]; first | done | assumption | with_reducible rfl) | rfl) (by first | with_reducible rfl | assumption | (simp only [nI_add, pk_mul, nI_1]; with_reducible rfl)) (by first | assumption | omega) (by first | assumption | omega) ?_
        refine r_dup dX2_route_53 rfl ?_
        refine r_iconst (v := nI 1) dX2_route_54 (by decide) ?_
        refine r_aload_n (i := 2) dX2_route_55 rfl rfl ?_
        refine r_getI dX2_route_56 fR_X2_237 (by first | assumption | (simp only [kd_sI, kd_sR, kd_sA, kd_sQ, kd_sL, kd_sD, ln_sI, ln_sR, ln_sA, ln_sQ, ln_sL, ln_sD, gI_sR, gI_sA, gI_sQ, gI_sL, gI_sD, gR_sI, gR_sA, gR_sQ, gR_sL, gR_sD, gA_sI, gA_sR, gA_sQ, gA_sL, gA_sD, gQ_sI, gQ_sR, gQ_sA, gQ_sL, gQ_sD, gL_sI, gL_sR, gL_sA, gL_sQ, gL_sD]; assumption) | simp [kd_sI, kd_sR, kd_sA, kd_sQ, kd_sL, kd_sD, ln_sI, ln_sR, ln_sA, ln_sQ, ln_sL, ln_sD, gI_sR, gI_sA, gI_sQ, gI_sL, gI_sD, gR_sI, gR_sA, gR_sQ, gR_sL, gR_sD, gA_sI, gA_sR, gA_sQ, gA_sL, gA_sD, gQ_sI, gQ_sR, gQ_sA, gQ_sL, gQ_sD, gL_sI, gL_sR, gL_sA, gL_sQ, gL_sD, kd_nO, kd_nA, *]) (by first | assumption | exact gI_sIs | exact gR_sRs | with_reducible rfl | (simp only [kd_sI, kd_sR, kd_sA, kd_sQ, kd_sL, kd_sD, ln_sI, ln_sR, ln_sA, ln_sQ, ln_sL, ln_sD, gI_sR, gI_sA, gI_sQ, gI_sL, gI_sD, gR_sI, gR_sA, gR_sQ, gR_sL, gR_sD, gA_sI, gA_sR, gA_sQ, gA_sL, gA_sD, gQ_sI, gQ_sR, gQ_sA, gQ_sL, gQ_sD, gL_sI, gL_sR, gL_sA, gL_sQ, gL_sD]; first | done | assumption | with_reducible rfl) | rfl) ?_
        refine r_iast dX2_route_59 (by first | assumption | (simp only [kd_sI, kd_sR, kd_sA, kd_sQ, kd_sL, kd_sD, ln_sI, ln_sR, ln_sA, ln_sQ, ln_sL, ln_sD, gI_sR, gI_sA, gI_sQ, gI_sL, gI_sD, gR_sI, gR_sA, gR_sQ, gR_sL, gR_sD, gA_sI, gA_sR, gA_sQ, gA_sL, gA_sD, gQ_sI, gQ_sR, gQ_sA, gQ_sL, gQ_sD, gL_sI, gL_sR, gL_sA, gL_sQ, gL_sD]; assumption) | simp [kd_sI, kd_sR, kd_sA, kd_sQ, kd_sL, kd_sD, ln_sI, ln_sR, ln_sA, ln_sQ, ln_sL, ln_sD, gI_sR, gI_sA, gI_sQ, gI_sL, gI_sD, gR_sI, gR_sA, gR_sQ, gR_sL, gR_sD, gA_sI, gA_sR, gA_sQ, gA_sL, gA_sD, gQ_sI, gQ_sR, gQ_sA, gQ_sL, gQ_sD, gL_sI, gL_sR, gL_sA, gL_sQ, gL_sD, kd_nO, kd_nA, *]) (by first | decide | assumption) (by first | assumption | exact gI_sIs | exact gR_sRs | with_reducible rfl | (simp only [kd_sI, kd_sR, kd_sA, kd_sQ, kd_sL, kd_sD, ln_sI, ln_sR, ln_sA, ln_sQ, ln_sL, ln_sD, gI_sR, gI_sA, gI_sQ, gI_sL, gI_sD, gR_sI, gR_sA, gR_sQ, gR_sL, gR_sD, gA_sI, gA_sR, gA_sQ, gA_sL, gA_sD, gQ_sI, gQ_sR, gQ_sA, gQ_sL, gQ_sD, gL_sI, gL_sR, gL_sA, gL_sQ, gL_sD]; first | done | assumption | with_reducible rfl) | rfl) (by first | with_reducible rfl | assumption | (simp only [nI_add, pk_mul, nI_1]; with_reducible rfl)) (by first | assumption | omega) (by first | assumption | omega) ?_
        refine r_dup dX2_route_60 rfl ?_
        refine r_iconst (v := nI 2) dX2_route_61 (by decide) ?_
        refine r_aload_n (i := 2) dX2_route_62 rfl rfl ?_
        refine r_getI dX2_route_63 fR_X2_240 (by first | assumption | (simp only [kd_sI, kd_sR, kd_sA, kd_sQ, kd_sL, kd_sD, ln_sI, ln_sR, ln_sA, ln_sQ, ln_sL, ln_sD, gI_sR, gI_sA, gI_sQ, gI_sL, gI_sD, gR_sI, gR_sA, gR_sQ, gR_sL, gR_sD, gA_sI, gA_sR, gA_sQ, gA_sL, gA_sD, gQ_sI, gQ_sR, gQ_sA, gQ_sL, gQ_sD, gL_sI, gL_sR, gL_sA, gL_sQ, gL_sD]; assumption) | simp [kd_sI, kd_sR, kd_sA, kd_sQ, kd_sL, kd_sD, ln_sI, ln_sR, ln_sA, ln_sQ, ln_sL, ln_sD, gI_sR, gI_sA, gI_sQ, gI_sL, gI_sD, gR_sI, gR_sA, gR_sQ, gR_sL, gR_sD, gA_sI, gA_sR, gA_sQ, gA_sL, gA_sD, gQ_sI, gQ_sR, gQ_sA, gQ_sL, gQ_sD, gL_sI, gL_sR, gL_sA, gL_sQ, gL_sD, kd_nO, kd_nA, *]) (by first | assumption | exact gI_sIs | exact gR_sRs | with_reducible rfl | (simp only [kd_sI, kd_sR, kd_sA, kd_sQ, kd_sL, kd_sD, ln_sI, ln_sR, ln_sA, ln_sQ, ln_sL, ln_sD, gI_sR, gI_sA, gI_sQ, gI_sL, gI_sD, gR_sI, gR_sA, gR_sQ, gR_sL, gR_sD, gA_sI, gA_sR, gA_sQ, gA_sL, gA_sD, gQ_sI, gQ_sR, gQ_sA, gQ_sL, gQ_sD, gL_sI, gL_sR, gL_sA, gL_sQ, gL_sD]; first | done | assumption | with_reducible rfl) | rfl) ?_
        refine r_iast dX2_route_66 (by first | assumption | (simp only [kd_sI, kd_sR, kd_sA, kd_sQ, kd_sL, kd_sD, ln_sI, ln_sR, ln_sA, ln_sQ, ln_sL, ln_sD, gI_sR, gI_sA, gI_sQ, gI_sL, gI_sD, gR_sI, gR_sA, gR_sQ, gR_sL, gR_sD, gA_sI, gA_sR, gA_sQ, gA_sL, gA_sD, gQ_sI, gQ_sR, gQ_sA, gQ_sL, gQ_sD, gL_sI, gL_sR, gL_sA, gL_sQ, gL_sD]; assumption) | simp [kd_sI, kd_sR, kd_sA, kd_sQ, kd_sL, kd_sD, ln_sI, ln_sR, ln_sA, ln_sQ, ln_sL, ln_sD, gI_sR, gI_sA, gI_sQ, gI_sL, gI_sD, gR_sI, gR_sA, gR_sQ, gR_sL, gR_sD, gA_sI, gA_sR, gA_sQ, gA_sL, gA_sD, gQ_sI, gQ_sR, gQ_sA, gQ_sL, gQ_sD, gL_sI, gL_sR, gL_sA, gL_sQ, gL_sD, kd_nO, kd_nA, *]) (by first | decide | assumption) (by first | assumption | exact gI_sIs | exact gR_sRs | with_reducible rfl | (simp only [kd_sI, kd_sR, kd_sA, kd_sQ, kd_sL, kd_sD, ln_sI, ln_sR, ln_sA, ln_sQ, ln_sL, ln_sD, gI_sR, gI_sA, gI_sQ, gI_sL, gI_sD, gR_sI, gR_sA, gR_sQ, gR_sL, gR_sD, gA_sI, gA_sR, gA_sQ, gA_sL, gA_sD, gQ_sI, gQ_sR, gQ_sA, gQ_sL, gQ_sD, gL_sI, gL_sR, gL_sA, gL_sQ, gL_sD]; first | done | assumption | with_reducible rfl) | rfl) (by first | with_reducible rfl | assumption | (simp only [nI_add, pk_mul, nI_1]; with_reducible rfl)) (by first | assumption | omega) (by first | assumption | omega) ?_
        refine AW.name (fun H4 hH4 => ?_)
        have K4 : Ks (fun _ => False) H2 H4 := by rw [hH4]; exact ((K3.sA (fun h => h hqa)).sA (fun h => h hqa)).sA (fun h => h hqa)
        refine r_callS (As := [_, _]) (mc' := 3) (ms' := 21) dX2_route_67 k_X2_207 rfl (by first | assumption | omega) (by first | assumption | omega) (by first | assumption | omega) (Nat.le_of_ble_eq_true rfl) ?_
        refine of_call (n := 3) (fun z => if z = 0 then nI 3 else if z = 1 then nI fr else nI to) (by decide) (by decide) (by omega) hqa K4 (by rw [hH4]; exact kq3) (by rw [hH4]; exact lq3) (fun z hz => ?_) (fun H5 r K5 C5 h9 => ?_)
        · rw [hH4, gA_sAs, gA_sAs, gA_sAs]
          rcases (show z = 0 ∨ z = 1 ∨ z = 2 by omega) with rfl | rfl | rfl
          · rw [upd_n (by decide), upd_n (by decide)]
            exact upd_s
          · rw [upd_n (by decide)]
            exact upd_s
          · exact upd_s
        · show AW mX2_route G d Qr Qx _ _ H5 70 _ _
          refine r_athrow dX2_route_70 (by first | assumption | (simp only [kd_sI, kd_sR, kd_sA, kd_sQ, kd_sL, kd_sD, ln_sI, ln_sR, ln_sA, ln_sQ, ln_sL, ln_sD, gI_sR, gI_sA, gI_sQ, gI_sL, gI_sD, gR_sI, gR_sA, gR_sQ, gR_sL, gR_sD, gA_sI, gA_sR, gA_sQ, gA_sL, gA_sD, gQ_sI, gQ_sR, gQ_sA, gQ_sL, gQ_sD, gL_sI, gL_sR, gL_sA, gL_sQ, gL_sD]; assumption) | simp [kd_sI, kd_sR, kd_sA, kd_sQ, kd_sL, kd_sD, ln_sI, ln_sR, ln_sA, ln_sQ, ln_sL, ln_sD, gI_sR, gI_sA, gI_sQ, gI_sL, gI_sD, gR_sI, gR_sA, gR_sQ, gR_sL, gR_sD, gA_sI, gA_sR, gA_sQ, gA_sL, gA_sD, gQ_sI, gQ_sR, gQ_sA, gQ_sL, gQ_sD, gL_sI, gL_sR, gL_sA, gL_sQ, gL_sD, kd_nO, kd_nA, *]) rfl ?_
          exact x_out (by decide) (hX H5 r _ _ (K12.tr K5) (C5.mono (fun b hb => K12.fr hb)) (Or.inl ⟨rfl, h9⟩) (by rw [hrl, hrf]; rfl))
    | some q0 =>
      refine r_if_ne (tgt := 71) dX2_route_42 (by decide) (fun h42 => ?_) (fun h42 => ?_)
      · have kyk2 : kd H2 (ty y) = 17 := K12.kk kyk (by decide)
        refine r_new dX2_route_71 cT_X11 q1897 q1898 q128 (by decide +kernel) (by first | assumption | omega) (by first | assumption | omega) (fun q71 hq71 => ?_)
        have hqb : kd H2 q71 = 0 := hq71
        refine AW.name (fun H3 hH3 => ?_)
        refine AW.st0 (fun z3 => ?_)
        have K3' : Ks (fun _ => False) H2 H3 := by rw [hH3]; exact Ks.rf.nO hqb
        have K3 := K12.tr K3'
        have kq3 : kd H3 q71 = 11 := by rw [hH3, kd_nO, if_pos rfl]
        have i483 : gI H3 48 q71 = 0 := by rw [hH3, gI_nO, if_pos rfl]
        have r503 : gR H3 50 q71 = none := by rw [hH3, gR_nO, if_pos rfl]
        have x3 := K3.at (a := ca i) (by rw [kc]; decide) (fun h => h)
        have kc3 : kd H3 (ca i) = 4 := by rw [at_kd x3]; exact kc
        have f243 : gI H3 24 (ca i) = nI fr := by rw [at_gI x3]; exact f24
        have f253 : gI H3 25 (ca i) = nI to := by rw [at_gI x3]; exact f25
        have s3 : Stq G (fun _ => False) H O H3 O := Stq.of K3 z3
        have hTy3 := (h2.ks s3 (fun _ _ h => h.elim)).2.2.2.2.2 y hy3
        refine r_dup dX2_route_74 rfl ?_
        refine r_aload_n (i := 0) dX2_route_75 rfl rfl ?_
        refine r_aload_n (i := 3) dX2_route_76 rfl rfl ?_
        refine r_aload_n (i := 2) dX2_route_77 rfl rfl ?_
        refine r_getI dX2_route_78 fR_X2_237 (by first | assumption | (simp only [kd_sI, kd_sR, kd_sA, kd_sQ, kd_sL, kd_sD, ln_sI, ln_sR, ln_sA, ln_sQ, ln_sL, ln_sD, gI_sR, gI_sA, gI_sQ, gI_sL, gI_sD, gR_sI, gR_sA, gR_sQ, gR_sL, gR_sD, gA_sI, gA_sR, gA_sQ, gA_sL, gA_sD, gQ_sI, gQ_sR, gQ_sA, gQ_sL, gQ_sD, gL_sI, gL_sR, gL_sA, gL_sQ, gL_sD]; assumption) | simp [kd_sI, kd_sR, kd_sA, kd_sQ, kd_sL, kd_sD, ln_sI, ln_sR, ln_sA, ln_sQ, ln_sL, ln_sD, gI_sR, gI_sA, gI_sQ, gI_sL, gI_sD, gR_sI, gR_sA, gR_sQ, gR_sL, gR_sD, gA_sI, gA_sR, gA_sQ, gA_sL, gA_sD, gQ_sI, gQ_sR, gQ_sA, gQ_sL, gQ_sD, gL_sI, gL_sR, gL_sA, gL_sQ, gL_sD, kd_nO, kd_nA, *]) (by first | assumption | exact gI_sIs | exact gR_sRs | with_reducible rfl | (simp only [kd_sI, kd_sR, kd_sA, kd_sQ, kd_sL, kd_sD, ln_sI, ln_sR, ln_sA, ln_sQ, ln_sL, ln_sD, gI_sR, gI_sA, gI_sQ, gI_sL, gI_sD, gR_sI, gR_sA, gR_sQ, gR_sL, gR_sD, gA_sI, gA_sR, gA_sQ, gA_sL, gA_sD, gQ_sI, gQ_sR, gQ_sA, gQ_sL, gQ_sD, gL_sI, gL_sR, gL_sA, gL_sQ, gL_sD]; first | done | assumption | with_reducible rfl) | rfl) ?_
        refine r_aload_n (i := 2) dX2_route_81 rfl rfl ?_
        refine r_getI dX2_route_82 fR_X2_240 (by first | assumption | (simp only [kd_sI, kd_sR, kd_sA, kd_sQ, kd_sL, kd_sD, ln_sI, ln_sR, ln_sA, ln_sQ, ln_sL, ln_sD, gI_sR, gI_sA, gI_sQ, gI_sL, gI_sD, gR_sI, gR_sA, gR_sQ, gR_sL, gR_sD, gA_sI, gA_sR, gA_sQ, gA_sL, gA_sD, gQ_sI, gQ_sR, gQ_sA, gQ_sL, gQ_sD, gL_sI, gL_sR, gL_sA, gL_sQ, gL_sD]; assumption) | simp [kd_sI, kd_sR, kd_sA, kd_sQ, kd_sL, kd_sD, ln_sI, ln_sR, ln_sA, ln_sQ, ln_sL, ln_sD, gI_sR, gI_sA, gI_sQ, gI_sL, gI_sD, gR_sI, gR_sA, gR_sQ, gR_sL, gR_sD, gA_sI, gA_sR, gA_sQ, gA_sL, gA_sD, gQ_sI, gQ_sR, gQ_sA, gQ_sL, gQ_sD, gL_sI, gL_sR, gL_sA, gL_sQ, gL_sD, kd_nO, kd_nA, *]) (by first | assumption | exact gI_sIs | exact gR_sRs | with_reducible rfl | (simp only [kd_sI, kd_sR, kd_sA, kd_sQ, kd_sL, kd_sD, ln_sI, ln_sR, ln_sA, ln_sQ, ln_sL, ln_sD, gI_sR, gI_sA, gI_sQ, gI_sL, gI_sD, gR_sI, gR_sA, gR_sQ, gR_sL, gR_sD, gA_sI, gA_sR, gA_sQ, gA_sL, gA_sD, gQ_sI, gQ_sR, gQ_sA, gQ_sL, gQ_sD, gL_sI, gL_sR, gL_sA, gL_sQ, gL_sD]; first | done | assumption | with_reducible rfl) | rfl) ?_
        refine r_callI (As := [_, _, _, _]) (mc' := 8193) (ms' := 49164) dX2_route_85 k_X2_184 rfl (by first | assumption | omega) (by first | assumption | omega) (by first | assumption | omega) (Nat.le_of_ble_eq_true rfl) ?_
        refine c_searchInit (op := opB g (some y)) (by omega) hGT rfl (fun t ht => (hV7.2.2 t ht).1) gc2 gc4 (hV.ks K3 (fun _ _ h => h.elim)) (OpR.of hB hYY hTy3) kq3 i483 r503 (fun H4 rb K4' hrb hS4 => ?_)
        refine AW.st0 (fun z4 => ?_)
        have K4 : Ks (fun _ => False) H H4 := K3.tr2 K4' (fun a ha e => by rw [e] at ha; exact ha (K12.fr hqb))
        have kq4 : kd H4 q71 = 11 := hS4.1.1
        have s4 : Stq G (fun _ => False) H O H4 O := Stq.of K4 z4
        show AW mX2_route G d Qr Qx _ _ H4 88 _ _
        refine r_astore dX2_route_88 (Nat.le_of_ble_eq_true rfl) (by simp only [lset]; rfl) ?_
        refine r_aload dX2_route_90 rfl ?_
        refine r_callV (As := []) (mc' := 0) (ms' := 0) dX2_route_92 k_X2_187 rfl (by first | assumption | (simp only [kd_sI, kd_sR, kd_sA, kd_sQ, kd_sL, kd_sD, ln_sI, ln_sR, ln_sA, ln_sQ, ln_sL, ln_sD, gI_sR, gI_sA, gI_sQ, gI_sL, gI_sD, gR_sI, gR_sA, gR_sQ, gR_sL, gR_sD, gA_sI, gA_sR, gA_sQ, gA_sL, gA_sD, gQ_sI, gQ_sR, gQ_sA, gQ_sL, gQ_sD, gL_sI, gL_sR, gL_sA, gL_sQ, gL_sD]; assumption) | simp [kd_sI, kd_sR, kd_sA, kd_sQ, kd_sL, kd_sD, ln_sI, ln_sR, ln_sA, ln_sQ, ln_sL, ln_sD, gI_sR, gI_sA, gI_sQ, gI_sL, gI_sD, gR_sI, gR_sA, gR_sQ, gR_sL, gR_sD, gA_sI, gA_sR, gA_sQ, gA_sL, gA_sD, gQ_sI, gQ_sR, gQ_sA, gQ_sL, gQ_sD, gL_sI, gL_sR, gL_sA, gL_sQ, gL_sD, kd_nO, kd_nA, *]) (T := TX11) (N := 9) rfl (by first | assumption | omega) (by first | assumption | omega) (by first | assumption | omega) (Nat.le_of_ble_eq_true rfl) ?_
        refine c_isFound hS4 ?_
        show AW mX2_route G d Qr Qx _ _ H4 95 _ _
        have hS6 := hS4.2.2.2.2.2
        rw [hwF] at hS6 ⊢
        have y2 := h2.ks s4 (fun _ _ h => h.elim)
        have y3 := h3.ks s4 (fun _ _ h => h.elim)
        have y4 := h4.ks s4 (fun _ _ h => h.elim)
        have y5 := h5.ks s4 (fun _ _ h => h.elim)
        have y1 := PlF.ks ⟨⟨p1, p8, p9, p10, p11, p12, p13, p14, p15⟩, pO⟩ s4 (fun _ _ h => h.elim)
        have kp4 := y1.1.1
        cases hw1 : dfs g (opB g (some y)) to 7 fr (2 ^ fr) [] (nI 0) none with
        | none =>
          have hwn : wayB g (some y) fr to = none := hw1
          have hwm : wayB g none fr to = some q0 := hw0
          rw [hwn] at hrl
          refine r_if_ne (tgt := 104) dX2_route_95 (by decide) (fun h95 => ?_) (fun h95 => ?_)
          · exact absurd rfl h95
          · refine r_aload_n (i := 0) dX2_route_98 rfl rfl ?_
            refine r_aload_n (i := 3) dX2_route_99 rfl rfl ?_
            refine r_callV (As := [_]) (mc' := 13) (ms' := 91) dX2_route_100 k_X2_243 rfl (by first | assumption | (simp only [kd_sI, kd_sR, kd_sA, kd_sQ, kd_sL, kd_sD, ln_sI, ln_sR, ln_sA, ln_sQ, ln_sL, ln_sD, gI_sR, gI_sA, gI_sQ, gI_sL, gI_sD, gR_sI, gR_sA, gR_sQ, gR_sL, gR_sD, gA_sI, gA_sR, gA_sQ, gA_sL, gA_sD, gQ_sI, gQ_sR, gQ_sA, gQ_sL, gQ_sD, gL_sI, gL_sR, gL_sA, gL_sQ, gL_sD]; assumption) | simp [kd_sI, kd_sR, kd_sA, kd_sQ, kd_sL, kd_sD, ln_sI, ln_sR, ln_sA, ln_sQ, ln_sL, ln_sD, gI_sR, gI_sA, gI_sQ, gI_sL, gI_sD, gR_sI, gR_sA, gR_sQ, gR_sL, gR_sD, gA_sI, gA_sR, gA_sQ, gA_sL, gA_sD, gQ_sI, gQ_sR, gQ_sA, gQ_sL, gQ_sD, gL_sI, gL_sR, gL_sA, gL_sQ, gL_sD, kd_nO, kd_nA, *]) (T := TX2) (N := 8) rfl (by first | assumption | omega) (by first | assumption | omega) (by first | assumption | omega) (Nat.le_of_ble_eq_true rfl) ?_
            refine pl_full (by omega) ⟨t0, y1, ⟨_, _, _, _, y2⟩, ⟨_, _, _, _, _, y3⟩, ⟨_, _, _, _, _, y4⟩, ⟨_, _, y5⟩⟩ hI (y2.2.2.2.2.2 y hy3) (fun H5 r K5 C5 k10 => ?_)
            show AW mX2_route G d Qr Qx _ _ H5 103 _ _
            refine r_athrow dX2_route_103 (by first | assumption | (simp only [kd_sI, kd_sR, kd_sA, kd_sQ, kd_sL, kd_sD, ln_sI, ln_sR, ln_sA, ln_sQ, ln_sL, ln_sD, gI_sR, gI_sA, gI_sQ, gI_sL, gI_sD, gR_sI, gR_sA, gR_sQ, gR_sL, gR_sD, gA_sI, gA_sR, gA_sQ, gA_sL, gA_sD, gQ_sI, gQ_sR, gQ_sA, gQ_sL, gQ_sD, gL_sI, gL_sR, gL_sA, gL_sQ, gL_sD]; assumption) | simp [kd_sI, kd_sR, kd_sA, kd_sQ, kd_sL, kd_sD, ln_sI, ln_sR, ln_sA, ln_sQ, ln_sL, ln_sD, gI_sR, gI_sA, gI_sQ, gI_sL, gI_sD, gR_sI, gR_sA, gR_sQ, gR_sL, gR_sD, gA_sI, gA_sR, gA_sQ, gA_sL, gA_sD, gQ_sI, gQ_sR, gQ_sA, gQ_sL, gQ_sD, gL_sI, gL_sR, gL_sA, gL_sQ, gL_sD, kd_nO, kd_nA, *]) rfl ?_
            refine x_out (by decide) (hX H5 r _ _ (K4.tr K5) (C5.mono (fun b hb => K4.fr hb)) (Or.inr ⟨rfl, k10⟩) ?_)
            show rtL g (nI i) = _
            rw [hrl]
            unfold q_refuse
            rw [hfr, hto, hwm, hy]
        | some q1 =>
          obtain ⟨r, s⟩ := q1
          have hwn : wayB g (some y) fr to = some (r, s) := hw1
          rw [hw1] at hS6
          obtain ⟨ba, c1, c2, c3, c4, c5, c6, c7⟩ := hS6
          have hgood := wayB_good hwn
          have hI' : IG (routeG g i r) := IG_route hI hi (by rw [hy, hfr, hto]; exact hgood)
          refine r_if_ne (tgt := 104) dX2_route_95 (by decide) (fun h95 => ?_) (fun h95 => ?_)
          · have hyo := (y2.2.2.2.2.2 y hy3).1
            refine r_aload_n (i := 0) dX2_route_104 rfl rfl ?_
            refine r_aload_n (i := 2) dX2_route_105 rfl rfl ?_
            refine r_aload_n (i := 3) dX2_route_106 rfl rfl ?_
            refine r_aload dX2_route_107 rfl ?_
            refine r_callV (As := [_, _, _]) (mc' := 14) (ms' := 168) dX2_route_109 k_X2_247 rfl (by first | assumption | (simp only [kd_sI, kd_sR, kd_sA, kd_sQ, kd_sL, kd_sD, ln_sI, ln_sR, ln_sA, ln_sQ, ln_sL, ln_sD, gI_sR, gI_sA, gI_sQ, gI_sL, gI_sD, gR_sI, gR_sA, gR_sQ, gR_sL, gR_sD, gA_sI, gA_sR, gA_sQ, gA_sL, gA_sD, gQ_sI, gQ_sR, gQ_sA, gQ_sL, gQ_sD, gL_sI, gL_sR, gL_sA, gL_sQ, gL_sD]; assumption) | simp [kd_sI, kd_sR, kd_sA, kd_sQ, kd_sL, kd_sD, ln_sI, ln_sR, ln_sA, ln_sQ, ln_sL, ln_sD, gI_sR, gI_sA, gI_sQ, gI_sL, gI_sD, gR_sI, gR_sA, gR_sQ, gR_sL, gR_sD, gA_sI, gA_sR, gA_sQ, gA_sL, gA_sD, gQ_sI, gQ_sR, gQ_sA, gQ_sL, gQ_sD, gL_sI, gL_sR, gL_sA, gL_sQ, gL_sD, kd_nO, kd_nA, *]) (T := TX2) (N := 8) rfl (by first | assumption | omega) (by first | assumption | omega) (by first | assumption | omega) (Nat.le_of_ble_eq_true rfl) ?_
            refine pl_lay (by omega) y1 t0 y3 y4 z4 hI hI' hi hy ⟨hyo.1, hyo.2.2.1, hyo.2.2.2⟩ (hGA i hi es) es hgood.2.1 (fun x hx => hgood.2.2.1 x hx) hgood.2.2.2.2 ⟨kq4, c1, c5, c2, c3, c7⟩ (fun H5 O5 s5 _ T5 C5 => ?_)
            obtain ⟨re5, st5, C5⟩ := C5
            obtain ⟨out, v5, v6, n6, v9, v107, v108⟩ := routeG_v (r := r) hB hi hgood.2.1
            have w1 := y1.ks s5 (fun b _ e => by omega)
            have w2 := y2.ks s5 (fun b _ e => ⟨by omega, by omega, fun h => by omega⟩)
            have w5 := y5.ks s5 (fun b _ e => by omega)
            have e0 := out 0 (by omega)
            have e1 := out 1 (by omega)
            have e2 := out 2 (by omega)
            have e3 : nat (routeG g i r) 3 = nat g 3 := nat_eq (out 3 (by omega))
            have e40 : nat (routeG g i r) 40 = nat g 40 := nat_eq (out 40 (by omega))
            have e101 : nat (routeG g i r) 101 = nat g 101 := nat_eq (out 101 (by omega))
            have e354 : nat (routeG g i r) 354 = nat g 354 := nat_eq (out 354 (by omega))
            rw [← e0, ← e1, ← e2] at w1
            have w2' := w2.to (g' := routeG g i r) (fun y hy => by have := (hYY.1 y hy).1.2; show nat g (7 + 6 * y) ≤ 3; omega) (fun y k hy hk => out _ (by omega))
            have w5' := w5.to (dv' := dvOf (routeG g i r)) (fun x k hx hk => by unfold dvOf; exact out _ (by omega))
            rw [← e3] at w2'
            rw [← e40] at T5
            rw [← e101] at C5
            rw [← e354] at w5'
            have hW5 := PW.mk w1 w2' T5 C5 w5'
            have kp5 := w1.1.1
            show AW mX2_route G d Qr Qx _ _ H5 112 _ _
            refine r_aload_n (i := 0) dX2_route_112 rfl rfl ?_
            refine r_aload_n (i := 2) dX2_route_113 rfl rfl ?_
            refine r_callV (As := [_]) (mc' := 1) (ms' := 4) dX2_route_114 k_X2_250 rfl (by first | assumption | (simp only [kd_sI, kd_sR, kd_sA, kd_sQ, kd_sL, kd_sD, ln_sI, ln_sR, ln_sA, ln_sQ, ln_sL, ln_sD, gI_sR, gI_sA, gI_sQ, gI_sL, gI_sD, gR_sI, gR_sA, gR_sQ, gR_sL, gR_sD, gA_sI, gA_sR, gA_sQ, gA_sL, gA_sD, gQ_sI, gQ_sR, gQ_sA, gQ_sL, gQ_sD, gL_sI, gL_sR, gL_sA, gL_sQ, gL_sD]; assumption) | simp [kd_sI, kd_sR, kd_sA, kd_sQ, kd_sL, kd_sD, ln_sI, ln_sR, ln_sA, ln_sQ, ln_sL, ln_sD, gI_sR, gI_sA, gI_sQ, gI_sL, gI_sD, gR_sI, gR_sA, gR_sQ, gR_sL, gR_sD, gA_sI, gA_sR, gA_sQ, gA_sL, gA_sD, gQ_sI, gQ_sR, gQ_sA, gQ_sL, gQ_sD, gL_sI, gL_sR, gL_sA, gL_sQ, gL_sD, kd_nO, kd_nA, *]) (T := TX2) (N := 8) rfl (by first | assumption | omega) (by first | assumption | omega) (by first | assumption | omega) (Nat.le_of_ble_eq_true rfl) ?_
            refine pl_needed (by omega) hW5 hI' (by rw [e101]; exact hi) (fun H6 K6 => ?_)
            refine AW.st0 (fun z6 => ?_)
            have hnd : ndF (routeG g i r) i = q_need (routeG g i r) i := by
              unfold ndF
              rw [v5, if_neg (by decide), if_neg (by decide)]
            rw [hnd]
            have s6 : Stq G (fun _ => False) H5 O5 H6 O5 := Stq.of K6 z6
            show AW mX2_route G d Qr Qx _ _ H6 117 _ _
            refine r_ireturn dX2_route_117 rfl (by first | rfl | assumption | exact vp_nar_int _ | exact pk_nc _) ?_
            refine hQ i r s rfl hi hc es (by rw [hy, hfr, hto]; exact hwn) H6 O5 (((s4.mono (fun _ _ h => h.elim)).tr2 s5 (fun b _ e => by omega)).tr2 s6 (fun _ _ h => h.elim)) ⟨A, t0, w1.ks s6 (fun _ _ h => h.elim), ?_, ?_, ?_, ?_⟩
            · exact ⟨_, _, _, _, w2'.ks s6 (fun _ _ h => h.elim)⟩
            · exact ⟨_, _, _, _, _, T5.ks s6 (fun _ _ h => h.elim)⟩
            · exact ⟨_, _, _, _, _, C5.ks s6 (fun _ _ h => h.elim)⟩
            · exact ⟨_, _, w5'.ks s6 (fun _ _ h => h.elim)⟩
          · exact absurd (show (nI 1 : Int32) = 0 from h95) (by decide)
      · exact absurd (show (nI 1 : Int32) = 0 from h42) (by decide)
  · unfold rtL
    rcases hl with ⟨hc, rfl⟩ | ⟨hc, hne, rfl⟩
    · rw [if_pos hc]
    · rw [hc, if_neg (by decide), if_neg (show ¬ g (105 + 21 * c.toNatClampNeg) = 0 from hne)]
end Route
