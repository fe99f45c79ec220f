set_option maxRecDepth 100000
/-! fields, arrays, objects -/
theorem cellOf_congr {dA : Nat → ClassId} {H H' : AH} {b : Nat} (h1 : kd H' b = kd H b) (h2 : ln H' b = ln H b) (h3 : ∀ f, gI H' f b = gI H f b) (h4 : ∀ f, gR H' f b = gR H f b) (h5 : ∀ k, gA H' k b = gA H k b) (h6 : ∀ k, gQ H' k b = gQ H k b) (h7 : gL H' b = gL H b) (h8 : gD H' b = gD H b) : cellOf dA H' b = cellOf dA H b := by
  have hf : ∀ ci, fsOf H' ci b = fsOf H ci b := fun ci => by
    unfold fsOf
    exact List.map_congr_left fun e _ => by rw [h3, h4]
  unfold cellOf
  rw [h1, h2, hf, h5, h6, h7, h8]
theorem cellOf_obj {dA : Nat → ClassId} {H : AH} {a ci : Nat} (h : kd H a = ci + 1) (hc : ci < 999) : cellOf dA H a = .inr (ci, fsOf H ci a) := by
  unfold cellOf
  rw [h, if_pos (by omega), Nat.add_sub_cancel]
theorem cellOf_int {dA : Nat → ClassId} {H : AH} {a k t : Nat} (h : kd H a = k) (hk : k / 1000 = t) (h0 : 0 < t) (h1 : t < 4) : cellOf dA H a = .inl (dA t, ln H a, .inl (gA H k a)) := by
  unfold cellOf
  rw [h, if_neg (by omega), if_pos (by omega), hk]
theorem cellOf_ref {dA : Nat → ClassId} {H : AH} {a k t : Nat} (h : kd H a = k) (hk : k / 1000 = t) (h0 : 3 < t) (h1 : t < 6) : cellOf dA H a = .inl (dA t, ln H a, .inr (.inr (.inr (.inr (gQ H k a))))) := by
  unfold cellOf
  rw [h, if_neg (by omega), if_neg (by omega), if_pos (by omega), hk]
theorem cellOf_long {dA : Nat → ClassId} {H : AH} {a k : Nat} (h : kd H a = k) (hk : k / 1000 = 6) : cellOf dA H a = .inl (dA 6, ln H a, .inr (.inl (gL H a))) := by
  unfold cellOf
  rw [h, if_neg (by omega), if_neg (by omega), if_neg (by omega), if_pos (by omega)]
theorem cellOf_dbl {dA : Nat → ClassId} {H : AH} {a k : Nat} (h : kd H a = k) (hk : k / 1000 = 7) : cellOf dA H a = .inl (dA 7, ln H a, .inr (.inr (.inr (.inl (gD H a))))) := by
  unfold cellOf
  rw [h, if_neg (by omega), if_neg (by omega), if_neg (by omega), if_neg (by omega)]
theorem up2_ne {α : Type} {f : Nat → Nat → α} {i j i' j' : Nat} {v : α} (h : j' ≠ j) : up2 f i j v i' j' = f i' j' := by
  unfold up2
  rw [if_neg (fun q => h q.2)]
theorem au_ne {α : Type} {f : Nat → α} {k j : Nat} {v : α} (h : j ≠ k) : va_up f k v j = f j := by
  unfold va_up
  rw [if_neg h]
section Oth
variable {dA : Nat → ClassId} {H : AH} {b a : Nat}
theorem oth_sI {f : Nat} {v : Int32} (h : b ≠ a) : cellOf dA (sI H f a v) b = cellOf dA H b := cellOf_congr rfl rfl (fun _ => up2_ne h) (fun _ => rfl) (fun _ => rfl) (fun _ => rfl) rfl rfl
theorem oth_sR {f : Nat} {v : Option Nat} (h : b ≠ a) : cellOf dA (sR H f a v) b = cellOf dA H b := cellOf_congr rfl rfl (fun _ => rfl) (fun _ => up2_ne h) (fun _ => rfl) (fun _ => rfl) rfl rfl
theorem oth_sA {k : Nat} {F : Nat → Int32} (h : b ≠ a) : cellOf dA (sA H k a F) b = cellOf dA H b := cellOf_congr rfl rfl (fun _ => rfl) (fun _ => rfl) (fun _ => up2_ne h) (fun _ => rfl) rfl rfl
theorem oth_sQ {k : Nat} {F : Nat → Option Nat} (h : b ≠ a) : cellOf dA (sQ H k a F) b = cellOf dA H b := cellOf_congr rfl rfl (fun _ => rfl) (fun _ => rfl) (fun _ => rfl) (fun _ => up2_ne h) rfl rfl
theorem oth_sL {F : Nat → Int64} (h : b ≠ a) : cellOf dA (sL H a F) b = cellOf dA H b := cellOf_congr rfl rfl (fun _ => rfl) (fun _ => rfl) (fun _ => rfl) (fun _ => rfl) (au_ne h) rfl
theorem oth_sD {F : Nat → UInt64} (h : b ≠ a) : cellOf dA (sD H a F) b = cellOf dA H b := cellOf_congr rfl rfl (fun _ => rfl) (fun _ => rfl) (fun _ => rfl) (fun _ => rfl) rfl (au_ne h)
theorem oth_nO {k : Nat} (h : b ≠ a) : cellOf dA (nO H a k) b = cellOf dA H b := cellOf_congr (au_ne h) rfl (fun _ => if_neg h) (fun _ => if_neg h) (fun _ => rfl) (fun _ => rfl) rfl rfl
theorem oth_nA {k n : Nat} (h : b ≠ a) : cellOf dA (nA H a k n) b = cellOf dA H b := cellOf_congr (au_ne h) (au_ne h) (fun _ => rfl) (fun _ => rfl) (fun _ => up2_ne h) (fun _ => up2_ne h) (au_ne h) (au_ne h)
end Oth
/-- a class of the table with all that the kit asks of it -/
def ClsT (ci : Nat) (C : String) (T : u_T) (N : Nat) (ty : Nat → FieldType) : Prop := vwCl[ci]? = some (C, T, N) ∧ (∀ w ∈ u_ws C T N, w ∈ lw_all) ∧ (∀ k, k < N → parseFieldDescriptor (T k).2.2.1 = some (ty k)) ∧ (∀ a, a < N → ∀ b, b < N → a ≠ b → (T a).2.1 ≠ (T b).2.1 ∨ (T a).1 ≠ (T b).1) ∧ (cF ci).length = N ∧ ((cF ci).map Prod.snd).Nodup ∧ ci < 999
/-- a field's link: by the class own's entry idx, in objects of class ci: code and number; final or not -/
def FldG (own : String) (idx ci code fid : Nat) (ty0 : FieldType) (fin : Bool) : Prop := ∃ (C : String) (T : u_T) (N k : Nat) (ty : Nat → FieldType) (ref : String), ClsT ci C T N ty ∧ (∀ a, a < N → ∀ b, b < N → a ≠ b → (T a).2.1 ≠ (T b).2.1) ∧ k < N ∧ (cF ci)[k]? = some (code, fid) ∧ ty k = ty0 ∧ (T k).2.2.2 = fin ∧ (ref = (T k).1 ∨ Cond.sameField ref (T k).1 (T k).2.1 (T k).2.2.1 ∈ lw_all) ∧
  ((Cond.fieldLink own idx ref (T k).2.1 (T k).2.2.1 ∈ lw_all ∧ (fin = true → (T k).1 = own)) ∨ (fin = false ∧ ∃ host, Cond.fieldLinkNest own idx ref (T k).2.1 (T k).2.2.1 host ∈ lw_tbl))
/-- the same for reading alone -/
def FldR (own : String) (idx ci code fid : Nat) : Prop := ∃ (C : String) (T : u_T) (N k : Nat) (ty : Nat → FieldType) (ref : String), ClsT ci C T N ty ∧ k < N ∧ (cF ci)[k]? = some (code, fid) ∧ (ref = (T k).1 ∨ Cond.sameField ref (T k).1 (T k).2.1 (T k).2.2.1 ∈ lw_all) ∧
  (Cond.fieldLink own idx ref (T k).2.1 (T k).2.2.1 ∈ lw_all ∨ ∃ host, Cond.fieldLinkNest own idx ref (T k).2.1 (T k).2.2.1 host ∈ lw_tbl)
theorem FldG.R {own : String} {idx ci code fid : Nat} {ty0 : FieldType} {fin : Bool} (h : FldG own idx ci code fid ty0 fin) : FldR own idx ci code fid := by
  obtain ⟨C, T, N, k, ty, ref, h1, -, h2, h3, -, -, h6, h7⟩ := h
  exact ⟨C, T, N, k, ty, ref, h1, h2, h3, h6, h7.imp (fun q => q.1) (fun q => q.2)⟩
theorem same_of {G : Gl} {s : State} {T : u_T} {k : Nat} {ref : String} (hG : GW G s) (h : ref = (T k).1 ∨ Cond.sameField ref (T k).1 (T k).2.1 (T k).2.2.1 ∈ lw_all) : ∀ x, s.fieldFound? (T k).1 (T k).2.1 (T k).2.2.1 = some x → s.fieldFound? ref (T k).2.1 (T k).2.2.1 = some x := by
  intro x hx
  rcases h with rfl | h
  · exact hx
  · exact u_same (args := #[]) (hG.2.1 _ h _) x hx
theorem fsOf_get {H : AH} {ci a k code fid : Nat} (h : (cF ci)[k]? = some (code, fid)) : (fsOf H ci a)[k]? = some (if code = 1 then va_rf (gR H fid a) else if code = 2 then .float (gI H fid a).toUInt32 else .int (gI H fid a)) := by
  unfold fsOf
  rw [List.getElem?_map, h]
  rfl
theorem fsOf_set {H H' : AH} {ci a k code fid : Nat} {v : Value} (h : (cF ci)[k]? = some (code, fid)) (hnd : ((cF ci).map Prod.snd).Nodup) (hv : (if code = 1 then va_rf (gR H' fid a) else if code = 2 then .float (gI H' fid a).toUInt32 else .int (gI H' fid a)) = v)
    (ho : ∀ f, f ≠ fid → gI H' f a = gI H f a ∧ gR H' f a = gR H f a) : fsOf H' ci a = (fsOf H ci a).set k v := by
  apply List.ext_getElem?
  intro j
  have hlt : k < (cF ci).length := (List.getElem?_eq_some_iff.mp h).1
  by_cases hj : k = j
  · subst hj
    rw [fsOf_get h, hv, List.getElem?_set_self (by unfold fsOf; rw [List.length_map]; exact hlt)]
  · rw [List.getElem?_set_ne hj]
    unfold fsOf
    rw [List.getElem?_map, List.getElem?_map]
    cases hc : (cF ci)[j]? with
    | none => rfl
    | some e =>
      have hne : e.2 ≠ fid := by
        intro q
        have h1 : ((cF ci).map Prod.snd)[k]? = some fid := by rw [List.getElem?_map, h]; rfl
        have h2 : ((cF ci).map Prod.snd)[j]? = some fid := by rw [List.getElem?_map, hc, ← q]; rfl
        exact hj ((List.getElem?_inj (by rw [List.length_map]; exact hlt) hnd).mp (h1.trans h2.symm))
      obtain ⟨g1, g2⟩ := ho e.2 hne
      simp only [Option.map_some, g1, g2]
section R4
variable {M : MI} {G : Gl} {d : Nat} {Qr : Option AV → AH → Prop} {Qx : String → Nat → AH → Prop} {rc rs : Nat} {H : AH} {pc : Nat} {ls : List (Option AV)} {st : List AV}
/-- a getfield of any field -/
theorem r_get9 {a ci code fid idx : Nat} {w : AV} (hd : decode M.2.1 pc = .ok (.getfield idx, 3)) (hf : FldR M.1.cls idx ci code fid) (hk : kd H a = ci + 1) (hw : (if code = 1 then va_rf (gR H fid a) else if code = 2 then .float (gI H fid a).toUInt32 else .int (gI H fid a)) = tV w) (k : AW M G d Qr Qx rc rs H (pc + 3) ls (w :: st)) : AW M G d Qr Qx rc rs H pc ls (vR (some a) :: st) := by
  intro mc ms p e R s m args below meth c hC Hc locs arr cells slots hR hS hl ha hc hs
  obtain ⟨C, T, N, q, ty, ref, ⟨c1, c2, c3, c4, c5, c6, c7⟩, f2, f3, f4, f5⟩ := hf
  have hG : GW G s := hC.2.2.2.2.2.2.2.2.2.2.2.1
  obtain ⟨ws, hP, hD, hcov⟩ := hR
  obtain ⟨j, hj⟩ := hcov.1 a (by omega)
  rw [cellOf_obj hk c7] at hj
  have kk : W p G.1 e R s m args below meth c Hc locs cells slots (vx_MQ below (QcOf G Qr) (XCOf G Qx) args s mc ms (gBase G)) (F0 m (pc + 3) arr (tV w :: st.map tV)) := k mc ms p e R s m args below meth c hC Hc locs arr cells slots ⟨ws, hP, hD, hcov⟩ hS hl ha hc hs
  rcases f5 with f5 | ⟨host, f5⟩
  · exact va_get (D := G.2.1) hC.1 hC.2.1 (fun w h => hG.2.1 w h args) c2 hC.2.2.2.1 hG.1 hP j hj c1 q f2 (hG.2.1 _ f5 _) (same_of hG f4) (by rw [fsOf_get f3, hw]) hd kk
  · exact va_getN (D := G.2.1) hC.1 hC.2.1 (fun w h => hG.2.1 w h args) c2 hC.2.2.2.1 hG.1 hP j hj c1 q f2 (va_Nw.use rfl (hG.2.2.1 _ f5 rfl)) (same_of hG f4) (by rw [fsOf_get f3, hw]) hd kk
theorem r_getI {a ci fid idx : Nat} {v : Int32} (hd : decode M.2.1 pc = .ok (.getfield idx, 3)) (hf : FldR M.1.cls idx ci 0 fid) (hk : kd H a = ci + 1) (hv : gI H fid a = v) (k : AW M G d Qr Qx rc rs H (pc + 3) ls (vI v :: st)) : AW M G d Qr Qx rc rs H pc ls (vR (some a) :: st) :=
  r_get9 (w := vI v) hd hf hk (by rw [if_neg (by decide), if_neg (by decide), hv]; rfl) k
theorem r_getR {a ci fid idx : Nat} {v : Option Nat} (hd : decode M.2.1 pc = .ok (.getfield idx, 3)) (hf : FldR M.1.cls idx ci 1 fid) (hk : kd H a = ci + 1) (hv : gR H fid a = v) (k : AW M G d Qr Qx rc rs H (pc + 3) ls (vR v :: st)) : AW M G d Qr Qx rc rs H pc ls (vR (some a) :: st) :=
  r_get9 (w := vR v) hd hf hk (by rw [if_pos rfl, hv]; rfl) k
theorem r_put9 {a ci code fid idx : Nat} {ty : FieldType} {fin : Bool} {w : AV} {H' : AH} (hd : decode M.2.1 pc = .ok (.putfield idx, 3)) (hf : FldG M.1.cls idx ci code fid ty fin) (hin : fin = true → M.1.name = "<init>") (hk : kd H a = ci + 1) (hn : narrow ty (tV w) = tV w) (hfit : fits ty (tV w) = true)
    (hkd : kd H' = kd H) (hw : (if code = 1 then va_rf (gR H' fid a) else if code = 2 then .float (gI H' fid a).toUInt32 else .int (gI H' fid a)) = tV w) (ho : ∀ f, f ≠ fid → gI H' f a = gI H f a ∧ gR H' f a = gR H f a) (hoth : ∀ dA b, b ≠ a → cellOf dA H' b = cellOf dA H b)
    (k : AW M G d Qr Qx rc rs H' (pc + 3) ls st) : AW M G d Qr Qx rc rs H pc ls (w :: vR (some a) :: st) := by
  intro mc ms p e R s m args below meth c hC Hc locs arr cells slots hR hS hl ha hc hs
  refine mp_wrap hC hS hc hs (fun s9 R9 hC9 hs9 K => ?_)
  have hS9 : va_S (gBase G) s9.heap Hc [] := by rw [hs9]; exact va_S.rf
  obtain ⟨C, T, N, q, ty1, ref, ⟨c1, c2, c3, -, c5, c6, c7⟩, c4, f2, f3, rfl, f9, f4, f5⟩ := hf
  have hG : GW G s9 := hC9.2.2.2.2.2.2.2.2.2.2.2.1
  obtain ⟨ws, hP, hD, hcov⟩ := hR
  obtain ⟨j, hj⟩ := hcov.1 a (by omega)
  rw [cellOf_obj hk c7] at hj
  have hlen : q < (fsOf H ci a).length := by
    unfold fsOf
    rw [List.length_map, c5]
    exact f2
  have kk : ∀ (H1 : Heap) (locs1 : List Loc), va_P G.2.1 vwCl (ws.set j (a, .inr (ci, (fsOf H ci a).set q (tV w)))) H1 → va_D (gBase G) (ws.set j (a, .inr (ci, (fsOf H ci a).set q (tV w)))) → va_S (gBase G) s9.heap H1 locs1 → W p G.1 e R9 s9 m args below meth c H1 locs1 0 0 (vx_MQ below (QcOf G Qr) (XCOf G Qx) args s mc ms (gBase G)) (F0 m (pc + 3) arr (st.map tV)) := by
    intro H1 locs1 g1 g2 g3
    refine K H1 locs1 _ _ _ g3 (fun hm hS1 => k mc ms p e R s m args below meth c hC H1 _ arr _ _ ⟨_, g1, g2, cover_set hcov.1 hj (fun _ => ?_) (fun b hb hkb => ⟨by rw [← hkd]; exact hkb, hoth _ b hb⟩), hcov.2.setO hm hj⟩ hS1 hl ha (by omega) (by omega))
    rw [cellOf_obj (by rw [hkd]; exact hk) c7, fsOf_set f3 c6 hw ho]
  rcases f5 with ⟨f5, f6⟩ | ⟨f7, host, f5⟩
  · cases fin with
    | false => exact va_put (D := G.2.1) hC9.1 hC9.2.1 (fun w h => hG.2.1 w h args) c2 ty1 c3 c4 hC9.2.2.2.1 hG.1 hP hD hS9 j hj c1 q f2 (hG.2.1 _ f5 _) (same_of hG f4) f9 (c3 q f2) hn hfit hlen hd kk
    | true => exact va_putF (D := G.2.1) hC9.1 hC9.2.1 (fun w h => hG.2.1 w h args) c2 ty1 c3 c4 hC9.2.2.2.1 hG.1 hP hD hS9 j hj c1 q f2 (hG.2.1 _ f5 _) (same_of hG f4) f9 (hC9.2.2.2.2.2.1.trans (hin rfl)) (f6 rfl) (c3 q f2) hn hfit hlen hd kk
  · subst f7
    exact va_putN (D := G.2.1) hC9.1 hC9.2.1 (fun w h => hG.2.1 w h args) c2 ty1 c3 c4 hC9.2.2.2.1 hG.1 hP hD hS9 j hj c1 q f2 (va_Nw.use rfl (hG.2.2.1 _ f5 rfl)) (same_of hG f4) f9 (c3 q f2) hn hfit hlen hd kk
theorem r_putI {a ci fid idx : Nat} {ty : FieldType} {fin : Bool} {v : Int32} (hd : decode M.2.1 pc = .ok (.putfield idx, 3)) (hf : FldG M.1.cls idx ci 0 fid ty fin) (hin : fin = true → M.1.name = "<init>") (hk : kd H a = ci + 1) (hn : narrow ty (.int v) = .int v) (hfit : fits ty (.int v) = true)
    (k : AW M G d Qr Qx rc rs (sI H fid a v) (pc + 3) ls st) : AW M G d Qr Qx rc rs H pc ls (vI v :: vR (some a) :: st) :=
  r_put9 (w := vI v) (H' := sI H fid a v) hd hf hin hk hn hfit rfl (by rw [if_neg (by decide), if_neg (by decide), gI_sIs]; rfl) (fun f h => ⟨by rw [gI_sI, if_neg (fun q => h q.1)], rfl⟩) (fun _ _ h => oth_sI h) k
theorem r_putF {a ci fid idx : Nat} {fin : Bool} {v : UInt32} (hd : decode M.2.1 pc = .ok (.putfield idx, 3)) (hf : FldG M.1.cls idx ci 2 fid .float fin) (hin : fin = true → M.1.name = "<init>") (hk : kd H a = ci + 1)
    (k : AW M G d Qr Qx rc rs (sI H fid a v.toInt32) (pc + 3) ls st) : AW M G d Qr Qx rc rs H pc ls (vF v :: vR (some a) :: st) :=
  r_put9 (w := vF v) (H' := sI H fid a v.toInt32) hd hf hin hk rfl rfl rfl (by rw [if_neg (by decide), if_pos rfl, gI_sIs]; simp [tV]) (fun f h => ⟨by rw [gI_sI, if_neg (fun q => h q.1)], rfl⟩) (fun _ _ h => oth_sI h) k
theorem r_putR {a ci fid idx : Nat} {ty : FieldType} {fin : Bool} {v : Option Nat} (hd : decode M.2.1 pc = .ok (.putfield idx, 3)) (hf : FldG M.1.cls idx ci 1 fid ty fin) (hin : fin = true → M.1.name = "<init>") (hk : kd H a = ci + 1) (hty : (∃ n, ty = .object n) ∨ ∃ t, ty = .array t)
    (k : AW M G d Qr Qx rc rs (sR H fid a v) (pc + 3) ls st) : AW M G d Qr Qx rc rs H pc ls (vR v :: vR (some a) :: st) :=
  r_put9 (w := vR v) (H' := sR H fid a v) hd hf hin hk (by cases v <;> rcases hty with ⟨n, rfl⟩ | ⟨t, rfl⟩ <;> rfl) (by cases v <;> rcases hty with ⟨n, rfl⟩ | ⟨t, rfl⟩ <;> rfl) rfl (by rw [if_pos rfl, gR_sRs]; rfl) (fun f h => ⟨rfl, by rw [gR_sR, if_neg (fun q => h q.1)]⟩) (fun _ _ h => oth_sR h) k
/-- new -/
theorem r_new {ci idx N : Nat} {C : String} {T : u_T} {ty : Nat → FieldType} (hd : decode M.2.1 pc = .ok (.new idx, 3)) (hT : ClsT ci C T N ty) (h1 : Cond.classLink M.1.cls idx C ∈ lw_all) (h2 : Cond.instantiable C N ∈ lw_all) (h3 : Cond.initialized C ∈ lw_all)
    (hdef : (cF ci).map (fun e => if e.1 = 1 then Value.null else if e.1 = 2 then .float 0 else .int 0) = (List.range N).map (fun j => defaultValue (ty j))) (hc1 : 1 ≤ rc) (hs1 : N ≤ rs)
    (k : ∀ q, kd H q = 0 → AW M G d Qr Qx (rc - 1) (rs - N) (nO H q (ci + 1)) (pc + 3) ls (vR (some q) :: st)) : AW M G d Qr Qx rc rs H pc ls st := by
  intro mc ms p e R s m args below meth c hC Hc locs arr cells slots hR hS hl ha hc hs
  obtain ⟨c1, c2, c3, c4, c5, c6, c7⟩ := hT
  have hG : GW G s := hC.2.2.2.2.2.2.2.2.2.2.2.1
  have hroom := hC.2.2.2.2.2.2.2.2.2
  obtain ⟨ws, hP, hD, hcov⟩ := hR
  have hKn := hG.1.1 ci _ c1
  refine W.newcK hC.1 hC.2.1 hC.2.2.2.1 (hG.2.1 _ h1 _) (hG.2.1 _ h2 _) (hG.2.1 _ h3 _) rfl hd (by rw [hroom.1]; omega) (by rw [hroom.2.1]; omega) hKn.2.1 rfl fun H1 kC hkC e1 z1 o1 => ?_
  have hkp : ∀ (k : Nat) (x : Nat × va_E), ws[k]? = some x → H1[x.1]? = Hc[x.1]? := fun k x hx => o1 x.1 ((hP k x hx).lt)
  have hfs : ∀ j, j < N → defaultValue (ty j) = vp_V ((cF ci).map (fun e => if e.1 = 1 then Value.null else if e.1 = 2 then .float 0 else .int 0)) j := by
    intro j hj
    rw [hdef]
    unfold vp_V
    rw [List.getD_eq_getElem?_getD, List.getElem?_map, List.getElem?_range hj]
    rfl
  have hmp : MP Hc H1 := fun a cell ha => ⟨cell, by rw [o1 a (Array.getElem?_eq_some_iff.mp ha).1]; exact ha, rfl⟩
  have g2 : va_D (gBase G) (ws ++ [(Hc.size, .inr (ci, (cF ci).map (fun e => if e.1 = 1 then Value.null else if e.1 = 2 then .float 0 else .int 0)))]) := hD.push hP rfl (Nat.le_trans hC.2.2.2.2.2.2.2.2.2.2.2.2.2.1 hS.1)
  have hfr := fresh_of hcov.1 g2
  refine k Hc.size hfr mc ms p e R s m args below meth c hC H1 locs arr (cells + 1) (slots + N) ⟨_, (hP.kept hkp).app (fun k x hx => ?_), g2, cover_push hcov.1 (fun _ => ?_) (fun b hb hkb => ⟨?_, oth_nO hb⟩), hcov.2.push hmp (fun ci fs _ _ => ⟨_, e1, rfl, rfl⟩)⟩ ⟨Nat.le_trans hS.1 (by omega), fun x h1 h2 => (o1 x (Nat.lt_of_lt_of_le h1 hS.1)).trans (hS.2.1 x h1 h2), hS.2.2⟩ hl ha (by omega) (by omega)
  · have hz : k < 1 := (List.getElem?_eq_some_iff.mp hx).1
    rw [show k = 0 by omega] at hx
    cases hx
    exact ⟨_, c1, (u_born ty (fun w h => hG.2.1 w h args) c2 hKn hkC e1 c3).to hfs⟩
  · rw [cellOf_obj (by rw [kd_nO, if_pos rfl]) c7]
    unfold fsOf
    congr 2
    refine List.map_congr_left fun e _ => ?_
    rw [gI_nO, gR_nO, if_pos rfl, if_pos rfl]
    rfl
  · rw [kd_nO, if_neg hb] at hkb
    exact hkb
end R4
