/-! natives: arraycopy, getClass of an Object[], clone of a byte[]; classes told by atoms -/
section JN
variable {M : jM} {l : Launch} {G : jG} {d C : Nat} {Q : jQ} {X : jX} {Φ Φ' : List jP} {pc : Nat} {lv lv' : List (Nat × Value)} {rest : List Value} {b : Nat} {index : Nat}
/-- a row of b from its place at, over which n of a's from sp are laid -/
def jcpy (vs ws : List Value) (sp dp n : Nat) : List Value := ws.take dp ++ ((vs.drop sp).take n ++ ws.drop (dp + n))
theorem jcpy_arr (cA : ClassId) (vs ws : List Value) {sp dp n : Nat} (h1 : sp + n ≤ vs.length) (h2 : dp + n ≤ ws.length) : arrV cA ws.length (va_cpy (fun j => vs.getD j .null) (fun j => ws.getD j .null) sp dp n) = arrV cA (jcpy vs ws sp dp n).length (fun j => (jcpy vs ws sp dp n).getD j .null) := by
  have hl : (jcpy vs ws sp dp n).length = ws.length := by
    simp only [jcpy, List.length_append, List.length_take, List.length_drop]; omega
  rw [hl]
  congr 1
  funext j
  unfold va_cpy
  simp only [List.getD_eq_getElem?_getD]
  by_cases a1 : j < dp
  · rw [if_neg (by omega)]
    unfold jcpy
    rw [List.getElem?_append_left (by rw [List.length_take]; omega), List.getElem?_take, if_pos a1]
  · by_cases a2 : j < dp + n
    · rw [if_pos ⟨by omega, a2⟩]
      unfold jcpy
      rw [List.getElem?_append_right (by rw [List.length_take]; omega), List.length_take, Nat.min_eq_left (by omega), List.getElem?_append_left (by rw [List.length_take, List.length_drop]; omega), List.getElem?_take, if_pos (by omega), List.getElem?_drop]
    · rw [if_neg (by omega)]
      unfold jcpy
      rw [List.getElem?_append_right (by rw [List.length_take]; omega), List.length_take, Nat.min_eq_left (by omega), List.getElem?_append_right (by rw [List.length_take, List.length_drop]; omega), List.length_take, List.length_drop, Nat.min_eq_left (by omega), List.getElem?_drop]
      congr 2; omega
theorem jcopied (c0 c1 : ClassId) (vs ws : List Value) {sp dp n : Nat} (h1 : sp + n ≤ vs.length) (h2 : dp + n ≤ ws.length) :
    (arrV c1 ws.length (fun j => ws.getD j .null)).storeRun dp ((arrV c0 vs.length (fun j => vs.getD j .null)).stretch sp n) = arrV c1 (jcpy vs ws sp dp n).length (fun j => (jcpy vs ws sp dp n).getD j .null) := by
  rw [← jcpy_arr c1 vs ws h1 h2]
  exact va_copied (fun z => z) c0 c1 (fun j => vs.getD j .null) (fun j => ws.getD j .null) h1
theorem jw_ac : nativeFrameWords "java/lang/System" "arraycopy" 5 ≤ 40 := by decide +kernel
theorem jcopy {p : Program} {e : Env} {s : State} {m : MethodId} {args : Array Value} {below : List Frame} {meth : Method} {c : Code} {F : List jP} (D : jCx M l G p s m args meth c) {H : Heap} {locs : List Loc} {cells slots : Nat} {ls : Array Slot} (h1 : jsat G (Φ ++ F) H) (h5 : lv_has ls M.2.2.1 lv)
    (hlink : Cond.methodLink M.2.1 index arraycopyName ∈ lw_all) (hnat : Cond.native arraycopyName ∈ lw_all) (hstat : Cond.static arraycopyName ∈ lw_all) (hini : Cond.initialized "java/lang/System" ∈ lw_all) (hd : 1 ≤ d)
    (i j : Nat) {f : Bool} {a0 a k : Nat} {vs ws : List Value} (hi : Φ[i]? = some (jA f a0 ((1, k), vs))) (hj : Φ[j]? = some (jA false a ((1, k), ws))) {ty : FieldType} (hk : jty[k]? = some ty) {x y z : Int32} {sp dp n : Nat} (hx : x.toInt = (sp : Int)) (hy : y.toInt = (dp : Int)) (hz : z.toInt = (n : Int)) (hs : sp + n ≤ vs.length) (ht : dp + n ≤ ws.length)
    (hvals : ∀ (T : State) (vm' : Vm), T.heap = H → s.vm.Alike vm' → ∀ (comp : ClassId) (kz : Class), s.vm.classes[jAid G k]? = some kz → kz.kind = .array comp ty → ∀ i, i < n → fits ty (vs.getD (sp + i) .null) = true ∧ (T.setVm vm').takes comp (vs.getD (sp + i) .null))
    (hroom : (rest.map fun v => v.category).sum ≤ 8) (hdg : decode M.1 pc = .ok (.invokestatic index, 3)) {Q0 : State → Prop}
    (kk : ∀ (H1 : Heap) (L : List Loc), (∀ q ∈ L, q.base = a) → H1.size = H.size → (∀ q, q ≠ a → H1[q]? = H[q]?) → (∀ cell : Cell, jmt G a ((1, k), ws) cell → True) → H1[a]? = some (arrV (jAid G k) (jcpy vs ws sp dp n).length (fun j => (jcpy vs ws sp dp n).getD j .null)) → W p l e (jR d C) s m args below meth c H1 (locs ++ L) cells slots Q0 (F0 m (pc + 3) ls rest)) :
    W p l e (jR d C) s m args below meth c H locs cells slots Q0 (F0 m pc ls (.int z :: .int y :: .ref a :: .int x :: .ref a0 :: rest)) := by
  have hts := D.2.2.2.2.2.2.1
  have hK := D.2.2.2.2.2.2.2.1
  obtain ⟨-, cs, c1, c2⟩ := jat (s := s) hi h1
  obtain ⟨-, cd, d1, d2⟩ := jat (s := s) hj h1
  have c3 : cs = arrV (jAid G k) vs.length (fun j => vs.getD j .null) := c2
  have d3 : cd = arrV (jAid G k) ws.length (fun j => ws.getD j .null) := d2
  subst c3; subst d3
  obtain ⟨x0, x1⟩ := jidx hx
  obtain ⟨y0, y1⟩ := jidx hy
  obtain ⟨z0, z1⟩ := jidx hz
  obtain ⟨-, kz, hkz, cm, hkk⟩ := hK.ar k _ hk 0 (fun _ => .null)
  intro T hT Y
  obtain ⟨vm', Y', step⟩ := Y.arraycopy D.1 D.2.2.2.1 (hts _ hlink) (hts _ hnat) (hts _ hstat) (hts _ hini) (src := a0) (dst := a) (cs := arrV (jAid G k) vs.length (fun j => vs.getD j .null)) (cd := arrV (jAid G k) ws.length (fun j => ws.getD j .null)) (srcPos := x) (destPos := y) (n := z) (by rw [hT]; exact c1) (by rw [hT]; exact d1)
    (fun _ h => by cases h) (fun _ h => by cases h) (fun h => by cases h) (fun h => by cases h) hkz hkz hkk hkk (by cases ty <;> simp) x0 y0 z0
    (by rw [hx, hz, arrV_size]; omega) (by rw [hy, hz, arrV_size]; omega)
    (fun vm₁ hal i hi => by
      rw [x1]
      rw [z1] at hi
      have e : (arrV (jAid G k) vs.length (fun j => vs.getD j .null)).slots.getD (sp + i) .null = vs.getD (sp + i) .null := by
        rw [Array.getD_eq_getD_getElem?, arrV_read _ _ (by omega)]; rfl
      rw [e]
      exact hvals T vm₁ hT hal cm kz hkz hkk i hi)
    (g := F0 m pc ls (.int z :: .int y :: .ref a :: .int x :: .ref a0 :: rest)) rfl (by rw [D.2.2.1]; exact h5.1) (rest := rest) rfl (by rw [D.2.1]; exact hdg) hd (by show 2 * 0 + _ + (nativeFrameWords "java/lang/System" "arraycopy" 5 + 11) ≤ 64 * d; have := jw_ac; omega)
  have e1 : copied (arrV (jAid G k) vs.length (fun j => vs.getD j .null)) (arrV (jAid G k) ws.length (fun j => ws.getD j .null)) x y z = arrV (jAid G k) (jcpy vs ws sp dp n).length (fun j => (jcpy vs ws sp dp n).getD j .null) := by
    show (arrV _ _ _).storeRun y.toNatClampNeg ((arrV _ _ _).stretch x.toNatClampNeg z.toNatClampNeg) = _
    rw [x1, y1, z1]
    exact jcopied _ _ vs ws hs ht
  rw [e1] at Y' step
  have hl : a < H.size := (Array.getElem?_eq_some_iff.mp d1).1
  obtain ⟨t, a1, b1⟩ := kk (H.setIfInBounds a (arrV (jAid G k) (jcpy vs ws sp dp n).length (fun j => (jcpy vs ws sp dp n).getD j .null))) _ (fun q hq => by
      obtain ⟨w, -, hw⟩ := List.mem_map.mp hq
      rw [← hw]) (by simp) (fun q hq => by simp [Array.getElem?_setIfInBounds, Ne.symm hq]) (fun _ _ => trivial) (by simp [Array.getElem?_setIfInBounds, hl]) _ (by rw [← hT]; rfl) Y'
  exact ⟨t, step t a1, b1⟩
theorem jr_copyb (hlink : Cond.methodLink M.2.1 index arraycopyName ∈ lw_all) (hnat : Cond.native arraycopyName ∈ lw_all) (hstat : Cond.static arraycopyName ∈ lw_all) (hini : Cond.initialized "java/lang/System" ∈ lw_all) (hd : 1 ≤ d)
    (i j : Nat) {f : Bool} {a0 a : Nat} {vs ws : List Value} (hi : Φ[i]? = some (jA f a0 ((1, 0), vs))) (hj : Φ[j]? = some (jA false a ((1, 0), ws))) {x y z : Int32} {sp dp n : Nat} (hx : x.toInt = (sp : Int)) (hy : y.toInt = (dp : Int)) (hz : z.toInt = (n : Int)) (hs : sp + n ≤ vs.length) (ht : dp + n ≤ ws.length)
    (hvals : ∀ q, q < n → ∃ v : Int32, vs[sp + q]? = some (.int v) ∧ fits .byte (.int v) = true) (hroom : (rest.map fun v => v.category).sum ≤ 8) (hdg : decode M.1 pc = .ok (.invokestatic index, 3)) (hΦ : Φ.set j (jA false a ((1, 0), jcpy vs ws sp dp n)) = Φ')
    (k : jT M l G d C Q X Φ' (pc + 3) lv rest b) : jT M l G d C Q X Φ pc lv (.int z :: .int y :: .ref a :: .int x :: .ref a0 :: rest) b := by
  subst hΦ
  obtain ⟨p, e, s, m, args, below, meth, c, F⟩ := X
  intro D H locs cells slots ls h1 h2 h3 h4 h5
  refine jcopy D h1 h5 hlink hnat hstat hini hd i j hi hj rfl hx hy hz hs ht (fun T vm' hT hal comp kz hkz hkk q hq => ?_) hroom hdg (fun H1 L hL z1 o1 _ e1 => ?_)
  · obtain ⟨v, hv, hf⟩ := hvals q hq
    rw [List.getD_eq_getElem?_getD, hv]
    exact ⟨hf, trivial⟩
  · refine k D H1 _ cells slots ls (jsetF hj h1 z1 o1 rfl e1 rfl) (fun q hq => ?_) h3 h4 h5
    rcases List.mem_append.mp hq with hq | hq
    · exact h2 q hq
    · rw [hL q hq]; exact (jat (s := s) hj h1).1 rfl
/-- every y of these is an object of a class castable to E -/
def jEs (E : String) (ys : List Nat) : jP := jsl (ys.map (jE E))
theorem jpers_Es {E : String} {ys : List Nat} : jpers (jEs E ys) := jpers_sl fun P hP => by
  obtain ⟨y, -, rfl⟩ := List.mem_map.mp hP
  exact jpers_E
theorem jsl_split {A : List jP} {i : Nat} {P : jP} (hi : A[i]? = some P) {h : jH} (hh : jsl A h) : ∃ h', (∀ a c, h' a c → h a c) ∧ P h' := by
  obtain ⟨w, hw, rfl⟩ := hh
  exact ⟨w i, fun a c hc => ⟨i, jlt hi, hc⟩, hw.1 i P hi⟩
/-- one of them -/
theorem jt_Es {E : String} {ys : List Nat} (i n : Nat) {y : Nat} (hi : Φ[i]? = some (jEs E ys)) (hy : ys[n]? = some y) (h : jT M l G d C Q X (jE E y :: Φ) pc lv rest b) : jT M l G d C Q X Φ pc lv rest b := by
  refine jt_dup i hi jpers_Es ?_
  refine jt_ent (A := [jEs E ys]) (A' := [jE E y]) (fun h0 hh => ?_) h
  obtain ⟨h', h1, h2⟩ := jsl_split (A := ys.map (jE E)) (i := n) (by rw [List.getElem?_map, hy]; rfl) (jsl_one.mp hh)
  exact ⟨h', h1, jsl_one.mpr h2⟩
theorem jEs_spec {s : State} (hK : jKn G s) {F : List jP} {H : Heap} {i n : Nat} {E : String} {ys : List Nat} {v : Nat} (hi : Φ[i]? = some (jEs E ys)) (hy : ys[n]? = some v) (h : jsat G (Φ ++ F) H) {comp : ClassId} (hc : s.vm.findClass E = some comp) :
    ∃ cv : Cell, H[v]? = some cv ∧ cv.vm = .none ∧ (∃ kv : Class, s.vm.classes[cv.cls]? = some kv) ∧ s.vm.assignable cv.cls comp = true := by
  have h2 : jsat G (jEs E ys :: (Φ ++ F)) H := jsat_dup (by rw [List.getElem?_append_left (jlt hi)]; exact hi) jpers_Es h
  have h3 : jsat G ([jE E v] ++ (Φ ++ F)) H := jsat_ent (A := [jEs E ys]) (fun h0 hh => by
    obtain ⟨h', h1, h2⟩ := jsl_split (A := ys.map (jE E)) (i := n) (by rw [List.getElem?_map, hy]; rfl) (jsl_one.mp hh)
    exact ⟨h', h1, jsl_one.mpr h2⟩) h2
  exact jE_spec hK (Φ := [jE E v]) (i := 0) rfl h3 hc
theorem jr_copyq (hlink : Cond.methodLink M.2.1 index arraycopyName ∈ lw_all) (hnat : Cond.native arraycopyName ∈ lw_all) (hstat : Cond.static arraycopyName ∈ lw_all) (hini : Cond.initialized "java/lang/System" ∈ lw_all) (hd : 1 ≤ d)
    (i j jy : Nat) {f : Bool} {a0 a : Nat} {vs ws : List Value} (hi : Φ[i]? = some (jA f a0 ((1, 5), vs))) (hj : Φ[j]? = some (jA false a ((1, 5), ws))) {ys : List Nat} (hjy : Φ[jy]? = some (jEs "java/lang/Object" ys)) {x y z : Int32} {sp dp n : Nat} (hx : x.toInt = (sp : Int)) (hy : y.toInt = (dp : Int)) (hz : z.toInt = (n : Int)) (hs : sp + n ≤ vs.length) (ht : dp + n ≤ ws.length)
    (hvals : ∀ q, q < n → vs[sp + q]? = some .null ∨ ∃ (u r : Nat), vs[sp + q]? = some (.ref r) ∧ ys[u]? = some r) (hroom : (rest.map fun v => v.category).sum ≤ 8) (hdg : decode M.1 pc = .ok (.invokestatic index, 3)) (hΦ : Φ.set j (jA false a ((1, 5), jcpy vs ws sp dp n)) = Φ')
    (k : jT M l G d C Q X Φ' (pc + 3) lv rest b) : jT M l G d C Q X Φ pc lv (.int z :: .int y :: .ref a :: .int x :: .ref a0 :: rest) b := by
  subst hΦ
  obtain ⟨p, e, s, m, args, below, meth, c, F⟩ := X
  intro D H locs cells slots ls h1 h2 h3 h4 h5
  have hK := D.2.2.2.2.2.2.2.1
  refine jcopy D h1 h5 hlink hnat hstat hini hd i j hi hj rfl hx hy hz hs ht (fun T vm' hT hal comp kz hkz hkk q hq => ?_) hroom hdg (fun H1 L hL z1 o1 _ e1 => ?_)
  · rcases hvals q hq with hv | ⟨u, r, hv, hu⟩
    · rw [List.getD_eq_getElem?_getD, hv]
      exact ⟨rfl, trivial⟩
    · rw [List.getD_eq_getElem?_getD, hv]
      obtain ⟨kA, comp', k1, k2, k3, k4⟩ := hK.ra 5 _ rfl
      cases hkz.symm.trans k1
      cases hkk.symm.trans k2
      obtain ⟨cv, g1, g2, ⟨kv, g3⟩, g4⟩ := jEs_spec hK hjy hu h1 k3
      obtain ⟨kE, hkE, -⟩ := Vm.findClass_spec k3
      obtain ⟨kC', hkC', -⟩ := hal.2.2 _ _ g3
      obtain ⟨kE', hkE', -⟩ := hal.2.2 _ _ hkE
      refine ⟨rfl, cv, (show T.heap[r]? = some cv by rw [hT]; exact g1), (fun q h => by rw [h] at g2; cases g2), ⟨kC', hkC'⟩, ⟨kE', hkE'⟩, ?_⟩
      show vm'.assignable _ _ = true
      rw [hal.assignable]
      exact g4
  · refine k D H1 _ cells slots ls (jsetF hj h1 z1 o1 rfl e1 rfl) (fun q hq => ?_) h3 h4 h5
    rcases List.mem_append.mp hq with hq | hq
    · exact h2 q hq
    · rw [hL q hq]; exact (jat (s := s) hj h1).1 rfl
theorem jr_getC (i : Nat) {f : Bool} {a : Nat} {vs : List Value} (hi : Φ[i]? = some (jA f a ((1, 5), vs))) (hlink : Cond.methodLink M.2.1 index ⟨"java/lang/Object", "getClass", "()Ljava/lang/Class;"⟩ ∈ lw_all) (hsel : Cond.selects "[Ljava/lang/Object;" ⟨"java/lang/Object", "getClass", "()Ljava/lang/Class;"⟩ ⟨"java/lang/Object", "getClass", "()Ljava/lang/Class;"⟩ ∈ lw_all) (hinst : Cond.instanceMethod ⟨"java/lang/Object", "getClass", "()Ljava/lang/Class;"⟩ ∈ lw_all) (hnat : Cond.native ⟨"java/lang/Object", "getClass", "()Ljava/lang/Class;"⟩ ∈ lw_all) (hd : 1 ≤ d) (hroom : (rest.map fun v => v.category).sum ≤ 8) (hdg : decode M.1 pc = .ok (.invokevirtual index, 3))
    (k : jT M l G d C Q X Φ (pc + 3) lv (.ref (jKA G 1000) :: rest) b) : jT M l G d C Q X Φ pc lv (.ref a :: rest) b := by
  obtain ⟨p, e, s, m, args, below, meth, c, F⟩ := X
  intro D H locs cells slots ls h1 h2 h3 h4 h5
  have hts := D.2.2.2.2.2.2.1
  have hK := D.2.2.2.2.2.2.2.1
  obtain ⟨-, cs, c1, c2⟩ := jat (s := s) hi h1
  have c3 : cs = arrV (jAid G 5) vs.length (fun j => vs.getD j .null) := c2
  obtain ⟨kA, comp', k1, k2, k3, k4⟩ := hK.ra 5 _ rfl
  exact va_getC D.1 D.2.1 (by rw [D.2.2.1]; exact h5.1.symm) D.2.2.2.1 (hts _ hlink) (va_Dc.use hK.dc) (hts _ hsel) (hts _ hinst) (hts _ hnat) hK.mi ⟨cs, c1, by rw [c3]; rfl, by rw [c3]; exact k4⟩ hd (by show _ + 14 ≤ 64 * d; omega) hdg (k D H locs cells slots ls h1 h2 h3 h4 h5)
theorem jr_ldcM (hlink : Cond.classLink M.2.1 index "[Ljava/lang/Object;" ∈ lw_all) (hdg : decode M.1 pc = .ok (.ldc index, 2))
    (k : jT M l G d C Q X Φ (pc + 2) lv (.ref (jKA G 1000) :: rest) b) : jT M l G d C Q X Φ pc lv rest b := by
  obtain ⟨p, e, s, m, args, below, meth, c, F⟩ := X
  intro D H locs cells slots ls h1 h2 h3 h4 h5
  exact va_ldcM D.1 D.2.1 D.2.2.2.1 (D.2.2.2.2.2.2.1 _ hlink) D.2.2.2.2.2.2.2.1.mi hdg (k D H locs cells slots ls h1 h2 h3 h4 h5)
/-- the class told by an object's atom -/
theorem jt_E (i : Nat) {f : Bool} {a k0 : Nat} {fs : List Value} {E : String} (hi : Φ[i]? = some (jA f a ((0, k0), fs))) {r : vw_C} (hr : jcl[k0]? = some r) (hE : r.1 = E ∨ (r.1, E) ∈ jca) (h : jT M l G d C Q X (jE E a :: Φ) pc lv rest b) : jT M l G d C Q X Φ pc lv rest b := by
  refine jt_class i hi (o' := ((0, k0), [])) rfl ?_
  exact jt_ent (A := [jA true a ((0, k0), [])]) (A' := [jE E a]) (fun h0 hh => ⟨h0, fun _ _ z => z, jsl_one.mpr (jE_of (x := (0, k0)) (Or.inl ⟨rfl, r, hr, hE⟩) (jsl_one.mp hh))⟩) h
theorem jt_EA (i : Nat) {f : Bool} {a k0 : Nat} {vs : List Value} {E : String} (hi : Φ[i]? = some (jA f a ((1, k0), vs))) {ty : FieldType} (hr : jtr[k0]? = some ty) (hno : ∀ c, ty ≠ .object c) (hE : ("[" ++ ty.toString, E) ∈ jca) (h : jT M l G d C Q X (jE E a :: Φ) pc lv rest b) : jT M l G d C Q X Φ pc lv rest b := by
  refine jt_class i hi (o' := ((2, k0), [])) rfl ?_
  exact jt_ent (A := [jA true a ((2, k0), [])]) (A' := [jE E a]) (fun h0 hh => ⟨h0, fun _ _ z => z, jsl_one.mpr (jE_of (x := (2, k0)) (Or.inr ⟨rfl, ty, hr, hno, hE⟩) (jsl_one.mp hh))⟩) h
/-- instanceof a class that the object's isn't -/
theorem jr_instNo (i : Nat) {f : Bool} {a k0 : Nat} {fs : List Value} (hi : Φ[i]? = some (jA f a ((0, k0), fs))) {r : vw_C} (hr : jcl[k0]? = some r) {E : String} (hE : (r.1, E) ∈ jnc) (hcl : Cond.classLink M.2.1 index E ∈ lw_all) (hdg : decode M.1 pc = .ok (.instanceof index, 3))
    (k : jT M l G d C Q X Φ (pc + 3) lv (.int 0 :: rest) b) : jT M l G d C Q X Φ pc lv (.ref a :: rest) b := by
  obtain ⟨p, e, s, m, args, below, meth, c, F⟩ := X
  intro D H locs cells slots ls h1 h2 h3 h4 h5
  have hts := D.2.2.2.2.2.2.1
  have hK := D.2.2.2.2.2.2.2.1
  obtain ⟨-, cs, c1, c2, -, r', c3, c4, -⟩ := jat (s := s) hi h1
  cases Option.some.inj (c3.symm.trans hr)
  exact va_instNo D.1 D.2.1 D.2.2.2.1 (hts _ hcl) (hK.nc _ hE) ⟨cs, c1, by rw [c2]; rfl, by rw [c4]; exact (hK.cl.1 k0 _ hr).2.1⟩ hdg (k D H locs cells slots ls h1 h2 h3 h4 h5)
end JN
