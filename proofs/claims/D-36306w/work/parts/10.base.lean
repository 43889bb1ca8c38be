/-! contracts' ends, structural helpers, the pictures of lists -/
set_option maxRecDepth 100000
def jret (R : Option Value → List jP → Prop) : jQ := fun o Ψ => match o with
  | .returned v => R v Ψ
  | .threw _ => False
def jthr (R : Nat → List jP → Prop) : jQ := fun o Ψ => match o with
  | .returned _ => False
  | .threw q => R q Ψ
/-- frozen facts, each drawn from h, stand side by side -/
theorem jsl_frozen {A : List jP} {h : jH} (hp : ∀ (i : Nat) (P : jP), A[i]? = some P → ∃ h' : jH, (∀ a c, h' a c → h a c) ∧ P h' ∧ ∀ a c, h' a c → c.1 = true) : ∃ h'' : jH, (∀ a c, h'' a c → h a c) ∧ jsl A h'' := by
  have key : ∀ i : Nat, ∃ w : jH, ∀ P : jP, A[i]? = some P → (∀ a c, w a c → h a c) ∧ P w ∧ ∀ a c, w a c → c.1 = true := by
    intro i
    cases hA : A[i]? with
    | none => exact ⟨fun _ _ => False, fun P hP => by cases hP⟩
    | some P =>
      obtain ⟨w, h1, h2, h3⟩ := hp i P hA
      exact ⟨w, fun P' hP => by cases hP; exact ⟨h1, h2, h3⟩⟩
  refine ⟨jun A.length (fun i => Classical.choose (key i)), fun a c ⟨i, hi, hc⟩ => ?_, _, ⟨fun i P hP => ?_, fun i j a c d hi hj hne h1 h2 => ?_⟩, rfl⟩
  · exact (Classical.choose_spec (key i) _ (List.getElem?_eq_getElem hi)).1 a c hc
  · exact (Classical.choose_spec (key i) P hP).2.1
  · exact Or.inl ⟨(Classical.choose_spec (key i) _ (List.getElem?_eq_getElem hi)).2.2 a c h1, (Classical.choose_spec (key j) _ (List.getElem?_eq_getElem hj)).2.2 a d h2⟩
section JF
variable {M : jM} {l : Launch} {G : jG} {d C : Nat} {Q : jQ} {X : jX} {Φ Φ' : List jP} {pc : Nat} {lv : List (Nat × Value)} {st : List Value} {b : Nat}
theorem jt_fold {A : List jP} {P : jP} (he : ∀ h, jsl A h → P h) (h : jT M l G d C Q X (P :: Φ) pc lv st b) : jT M l G d C Q X (A ++ Φ) pc lv st b :=
  jt_ent (A' := [P]) (fun h hh => ⟨h, fun _ _ z => z, jsl_one.mpr (he h hh)⟩) h
/-- fewer facts, or others that follow -/
theorem jt_conv {A : List jP} {P : jP} (he : ∀ h, jsl A h → ∃ h' : jH, (∀ a c, h' a c → h a c) ∧ P h') (h : jT M l G d C Q X (P :: Φ) pc lv st b) : jT M l G d C Q X (A ++ Φ) pc lv st b :=
  jt_ent (A' := [P]) (fun h hh => (he h hh).elim fun h' q => ⟨h', q.1, jsl_one.mpr q.2⟩) h
theorem jr_getsV (k : Nat) {q : String × String × String} (hk : jst[k]? = some q) {index : Nat} (hlink : Cond.fieldLink M.2.1 index q.1 q.2.1 q.2.2 ∈ lw_all) {v : Value} (hv : jSV G k = v) (hdg : decode M.1 pc = .ok (.getstatic index, 3))
    (h : jT M l G d C Q X Φ (pc + 3) lv (v :: st) b) : jT M l G d C Q X Φ pc lv st b := by
  subst hv
  exact jr_gets k hk hlink hdg h
theorem jlv_ldc {index : Nat} {v : Int32} (hconst : Cond.constant M.2.1 index v ∈ lw_all) (hdg : decode M.1 pc = .ok (.ldc index, 2)) (k : jT M l G d C Q X Φ (pc + 2) lv (.int v :: st) b) : jT M l G d C Q X Φ pc lv st b := by
  obtain ⟨p, e, s, m, args, below, meth, c, F⟩ := X
  intro D H locs cells slots ls z1 z2 z3 z4 z5
  exact lv_ldc D.1 D.2.1 D.2.2.2.1 (D.2.2.2.2.2.2.1 _ hconst) hdg (k D H locs cells slots ls z1 z2 z3 z4 z5)
theorem jlv_ldc2 {index : Nat} {v : Int64} (hconst : Cond.constantLong M.2.1 index v ∈ lw_all) (hdg : decode M.1 pc = .ok (.ldc2_w index, 3)) (k : jT M l G d C Q X Φ (pc + 3) lv (.long v :: st) b) : jT M l G d C Q X Φ pc lv st b := by
  obtain ⟨p, e, s, m, args, below, meth, c, F⟩ := X
  intro D H locs cells slots ls z1 z2 z3 z4 z5
  exact lv_ldc2 D.1 D.2.1 D.2.2.2.1 (D.2.2.2.2.2.2.1 _ hconst) hdg (k D H locs cells slots ls z1 z2 z3 z4 z5)
theorem jr_mmax {x y : Int} (z : Int) (hx : -2147483648 ≤ x ∧ x ≤ 2147483647) (hy : -2147483648 ≤ y ∧ y ≤ 2147483647) (hz : max x y = z) {index : Nat} (hlink : Cond.methodLink M.2.1 index Lib.Math.max.name ∈ lw_all) (hstat : Cond.static Lib.Math.max.name ∈ lw_all) (hini : Cond.initialized "java/lang/Math" ∈ lw_all) (hcode : Cond.code Lib.Math.max.name Lib.Math.max.code 2 (some .int) ∈ lw_all) (hd : 1 ≤ d) (hroom : (st.map fun v => v.category).sum ≤ 8) (hdg : decode M.1 pc = .ok (.invokestatic index, 3))
    (h : jT M l G d C Q X Φ (pc + 3) lv (.int (iI z) :: st) b) : jT M l G d C Q X Φ pc lv (.int (iI y) :: .int (iI x) :: st) b := by
  obtain ⟨p, e, s, m, args, below, meth, c, F⟩ := X
  intro D H locs cells slots ls h1 h2 h3 h4 h5
  have hts := D.2.2.2.2.2.2.1
  have e1 : (if iI x < iI y then iI y else iI x) = iI z := by
    rw [← hz]
    by_cases q : x < y
    · rw [if_pos ((iI_lt hx hy).mpr q)]; congr 1; omega
    · rw [if_neg (fun w => q ((iI_lt hx hy).mp w))]; congr 1; omega
  exact va_mmax D.1 D.2.1 (by rw [D.2.2.1]; exact h5.1.symm) D.2.2.2.1 (hts _ hlink) (hts _ hstat) (hts _ hini) (hts _ hcode) hd (by show _ + 13 ≤ 64 * d; omega) (by show cells ≤ C; omega) (by show slots ≤ 4 * C; omega) hdg (by rw [e1]; exact h D H locs cells slots ls h1 h2 h3 h4 h5)
theorem jr_mmin {x y : Int} (z : Int) (hx : -2147483648 ≤ x ∧ x ≤ 2147483647) (hy : -2147483648 ≤ y ∧ y ≤ 2147483647) (hz : min x y = z) {index : Nat} (hlink : Cond.methodLink M.2.1 index Lib.Math.min.name ∈ lw_all) (hstat : Cond.static Lib.Math.min.name ∈ lw_all) (hini : Cond.initialized "java/lang/Math" ∈ lw_all) (hcode : Cond.code Lib.Math.min.name Lib.Math.min.code 2 (some .int) ∈ lw_all) (hd : 1 ≤ d) (hroom : (st.map fun v => v.category).sum ≤ 8) (hdg : decode M.1 pc = .ok (.invokestatic index, 3))
    (h : jT M l G d C Q X Φ (pc + 3) lv (.int (iI z) :: st) b) : jT M l G d C Q X Φ pc lv (.int (iI y) :: .int (iI x) :: st) b := by
  obtain ⟨p, e, s, m, args, below, meth, c, F⟩ := X
  intro D H locs cells slots ls h1 h2 h3 h4 h5
  have hts := D.2.2.2.2.2.2.1
  have e1 : (if iI y < iI x then iI y else iI x) = iI z := by
    rw [← hz]
    by_cases q : y < x
    · rw [if_pos ((iI_lt hy hx).mpr q)]; congr 1; omega
    · rw [if_neg (fun w => q ((iI_lt hy hx).mp w))]; congr 1; omega
  exact va_mmin D.1 D.2.1 (by rw [D.2.2.1]; exact h5.1.symm) D.2.2.2.1 (hts _ hlink) (hts _ hstat) (hts _ hini) (hts _ hcode) hd (by show _ + 13 ≤ 64 * d; omega) (by show cells ≤ C; omega) (by show slots ≤ 4 * C; omega) hdg (by rw [e1]; exact h D H locs cells slots ls h1 h2 h3 h4 h5)
theorem jt_Es0 {E : String} (h : jT M l G d C Q X (jEs E [] :: Φ) pc lv st b) : jT M l G d C Q X Φ pc lv st b :=
  jt_conv (A := []) (fun h0 hh => (jsl_frozen (A := ([] : List Nat).map (jE E)) (fun i P hP => by simp at hP)).elim fun h' q => ⟨h', q⟩) h
theorem jEs_get {E : String} {vs : List Nat} {y : Nat} (hy : y ∈ vs) {h : jH} (hh : jEs E vs h) : ∃ h' : jH, (∀ a c, h' a c → h a c) ∧ jE E y h' ∧ ∀ a c, h' a c → c.1 = true := by
  obtain ⟨n, hn⟩ := List.getElem?_of_mem hy
  obtain ⟨h', h1, h2⟩ := jsl_split (A := vs.map (jE E)) (i := n) (by rw [List.getElem?_map, hn]; rfl) hh
  exact ⟨h', h1, h2, jpers_E _ h2⟩
theorem jt_Es1 {E : String} {vs : List Nat} (ws : List Nat) (i : Nat) (hi : Φ[i]? = some (jEs E vs)) (hw : ∀ y ∈ ws, y ∈ vs) (h : jT M l G d C Q X (jEs E ws :: Φ) pc lv st b) : jT M l G d C Q X Φ pc lv st b := by
  refine jt_dup i hi jpers_Es ?_
  refine jt_conv (A := [jEs E vs]) (fun h0 hh => ?_) h
  obtain ⟨h'', h1, h2⟩ := jsl_frozen (A := ws.map (jE E)) (h := h0) (fun k P hP => by
    rw [List.getElem?_map] at hP
    cases hk : ws[k]? with
    | none => rw [hk] at hP; cases hP
    | some y =>
      rw [hk] at hP
      cases hP
      exact jEs_get (hw y (List.mem_of_getElem? hk)) (jsl_one.mp hh))
  exact ⟨h'', h1, h2⟩
theorem jt_Es2 {E : String} {vs : List Nat} {v : Nat} (ws : List Nat) (i j : Nat) (hi : Φ[i]? = some (jEs E vs)) (hj : Φ[j]? = some (jE E v)) (hw : ∀ y ∈ ws, y ∈ vs ∨ y = v) (h : jT M l G d C Q X (jEs E ws :: Φ) pc lv st b) : jT M l G d C Q X Φ pc lv st b := by
  refine jt_dup i hi jpers_Es ?_
  refine jt_dup (P := jE E v) (j + 1) hj jpers_E ?_
  refine jt_conv (A := [jE E v, jEs E vs]) (fun h0 hh => ?_) h
  obtain ⟨ha, a1, a2⟩ := jsl_split (i := 0) (P := jE E v) rfl hh
  obtain ⟨hb, b1, b2⟩ := jsl_split (i := 1) (P := jEs E vs) rfl hh
  obtain ⟨h'', h1, h2⟩ := jsl_frozen (A := ws.map (jE E)) (h := h0) (fun k P hP => by
    rw [List.getElem?_map] at hP
    cases hk : ws[k]? with
    | none => rw [hk] at hP; cases hP
    | some y =>
      rw [hk] at hP
      cases hP
      rcases hw y (List.mem_of_getElem? hk) with q | q
      · obtain ⟨h', q1, q2, q3⟩ := jEs_get q b2
        exact ⟨h', fun a c z => b1 a c (q1 a c z), q2, q3⟩
      · subst q
        exact ⟨ha, a1, a2, jpers_E _ a2⟩)
  exact ⟨h'', h1, h2⟩
end JF
theorem jsat_take {G : jG} {A : List jP} {H : Heap} {i a k : Nat} {fs : List Value} (n : Nat) (hi : A[i]? = some (jA true a ((0, k), fs))) (h : jsat G A H) : jsat G (A.set i (jA true a ((0, k), fs.take n))) H := by
  obtain ⟨hb, w, hw, hc⟩ := h
  have hP : w i = jone a true ((0, k), fs) := hw.1 i _ hi
  have hl := jlt hi
  refine ⟨hb, fun j => if j = i then jone a true ((0, k), fs.take n) else w j, ⟨fun j P e => ?_, fun j q b c d hj hq hne h3 h4 => ?_⟩, fun j b c hj h3 => ?_⟩
  · by_cases e1 : j = i
    · subst e1
      rw [List.getElem?_set_self hl] at e
      cases e
      simp only [if_true]; rfl
    · rw [List.getElem?_set_ne (Ne.symm e1)] at e
      simp only [e1, if_false]
      exact hw.1 j P e
  · rw [List.length_set] at hj hq
    have fix : ∀ d' b', q ≠ i → q < A.length → w q b' d' → b' = a → jcp (true, ((0, k), fs.take n)) d' := fun d' b' e2 hq hd e => by
      subst e
      rcases hw.2 i q b' (true, ((0, k), fs)) d' hl hq (Ne.symm e2) (by rw [hP]; exact ⟨rfl, rfl⟩) hd with z | z | z
      · exact Or.inl ⟨rfl, z.2⟩
      · rcases z.2 with z1 | z1
        · refine Or.inr (Or.inl ⟨rfl, Or.inl ⟨rfl, ?_⟩⟩)
          have : fs = [] := z1.2
          show fs.take n = []; rw [this]; exact List.take_nil
        · exact absurd (show 2 ≤ 0 from z1) (by decide)
      · exact Or.inr (Or.inr z)
    have fix2 : ∀ d' b', j ≠ i → j < A.length → w j b' d' → b' = a → jcp (true, ((0, k), fs.take n)) d' := fun d' b' e2 hq hd e => by
      subst e
      rcases hw.2 i j b' (true, ((0, k), fs)) d' hl hq (Ne.symm e2) (by rw [hP]; exact ⟨rfl, rfl⟩) hd with z | z | z
      · exact Or.inl ⟨rfl, z.2⟩
      · rcases z.2 with z1 | z1
        · refine Or.inr (Or.inl ⟨rfl, Or.inl ⟨rfl, ?_⟩⟩)
          have : fs = [] := z1.2
          show fs.take n = []; rw [this]; exact List.take_nil
        · exact absurd (show 2 ≤ 0 from z1) (by decide)
      · exact Or.inr (Or.inr z)
    by_cases e1 : j = i <;> by_cases e2 : q = i <;> simp only [e1, e2, if_true, if_false] at h3 h4
    · omega
    · obtain ⟨rfl, rfl⟩ := h3
      exact fix d b e2 hq h4 rfl
    · obtain ⟨rfl, rfl⟩ := h4
      exact (fix2 c b e1 hj h3 rfl).symm
    · exact hw.2 j q b c d hj hq hne h3 h4
  · rw [List.length_set] at hj
    by_cases e1 : j = i <;> simp only [e1, if_true, if_false] at h3
    · obtain ⟨rfl, rfl⟩ := h3
      obtain ⟨-, cell, g1, g2, gm, r, g3, g4, g5⟩ := hc i b (true, ((0, k), fs)) hl (by rw [hP]; exact ⟨rfl, rfl⟩)
      refine ⟨fun q => (by cases q), cell, g1, g2, fun q1 q2 q3 => gm q1 (fun z => q2 (by have z : fs = [] := z; show fs.take n = []; rw [z]; exact List.take_nil)) q3, r, g3, g4, fun j v hv => g5 j v ?_⟩
      have hv : (fs.take n)[j]? = some v := hv
      rw [List.getElem?_take] at hv
      by_cases q : j < n
      · rw [if_pos q] at hv; exact hv
      · rw [if_neg q] at hv; cases hv
    · exact hc j b c hj h3
theorem jt_take {M : jM} {l : Launch} {G : jG} {d C : Nat} {Q : jQ} {X : jX} {Φ Φ' : List jP} {pc : Nat} {lv : List (Nat × Value)} {st : List Value} {b : Nat} (i n : Nat) {a k : Nat} {fs : List Value} (hi : Φ[i]? = some (jA true a ((0, k), fs))) (hΦ : Φ.set i (jA true a ((0, k), fs.take n)) = Φ') (h : jT M l G d C Q X Φ' pc lv st b) : jT M l G d C Q X Φ pc lv st b := by
  subst hΦ
  refine jt_sat (fun F H h1 => ?_) h
  have := jsat_take (A := Φ ++ F) n (by rw [List.getElem?_append_left (jlt hi)]; exact hi) h1
  rwa [List.set_append_left _ _ (jlt hi)] at this
/-- the atom P holds an object of class k at a -/
def jhas (P : jP) (a k : Nat) : Prop := ∀ h, P h → ∃ (f : Bool) (fs : List Value), h a (f, ((0, k), fs))
theorem jhas_bun {X : Type} {p : X → Prop} {Ψ : X → List jP} {a k : Nat} (h : ∀ x, p x → ∃ (i : Nat) (f : Bool) (fs : List Value), (Ψ x)[i]? = some (jA f a ((0, k), fs))) : jhas (jbun p Ψ) a k := by
  rintro h0 ⟨x, hx, w, hw, e⟩
  obtain ⟨i, f, fs, hi⟩ := h x hx
  have hw0 : w i = jone a f ((0, k), fs) := hw.1 i _ hi
  exact ⟨f, fs, by rw [e]; exact ⟨i, jlt hi, by rw [hw0]; exact ⟨rfl, rfl⟩⟩⟩
theorem jsat_cls {G : jG} {A : List jP} {H : Heap} {i a k : Nat} {P : jP} (hi : A[i]? = some P) (hh : jhas P a k) (h : jsat G A H) : jsat G (jA true a ((0, k), []) :: A) H := by
  obtain ⟨hb, w, hw, hc⟩ := h
  obtain ⟨f, fs, hf⟩ := hh _ (hw.1 i P hi)
  obtain ⟨-, cell, g1, g2⟩ := hc i a _ (jlt hi) hf
  refine jsat_of (A := [jA true a ((0, k), [])]) hb (w := fun _ => jone a true ((0, k), [])) ⟨fun q Q e => ?_, fun q j a c d hk hj hne _ _ => ?_⟩ hw (fun q j a c d hk hj h3 h4 => ?_) (fun q b c hk h3 => ?_) hc
  · have hk : q < 1 := jlt e
    have : q = 0 := by omega
    subst this
    cases e; rfl
  · have h1 : q < 1 := hk
    have h2 : j < 1 := hj
    omega
  · obtain ⟨rfl, rfl⟩ := h3
    exact Or.inr (Or.inl ⟨rfl, Or.inl ⟨rfl, rfl⟩⟩)
  · obtain ⟨rfl, rfl⟩ := h3
    exact ⟨fun q => (by cases q), cell, g1, jmt_clo (o := ((0, k), fs)) g2⟩
theorem jt_cls {M : jM} {l : Launch} {G : jG} {d C : Nat} {Q : jQ} {X : jX} {Φ : List jP} {pc : Nat} {lv : List (Nat × Value)} {st : List Value} {b : Nat} (i : Nat) {P : jP} {a k : Nat} (hi : Φ[i]? = some P) (hh : jhas P a k) (h : jT M l G d C Q X (jA true a ((0, k), []) :: Φ) pc lv st b) : jT M l G d C Q X Φ pc lv st b :=
  jt_sat (Φ' := jA true a ((0, k), []) :: Φ) (fun F H h1 => jsat_cls (A := Φ ++ F) (by rw [List.getElem?_append_left (jlt hi)]; exact hi) hh h1) h
/-- an ArrayList, its elements: modCount, the array and its spare room hidden -/
def AL (G : jG) (a : Nat) (vs : List Nat) : jP := jbun (fun x : Int32 × Nat × List Value × Bool => vs.length + x.2.2.1.length ≤ 1000000 ∧ (x.2.2.2 = true → vs.length + x.2.2.1.length = 0 ∧ jSV G jiEmptyArr = .ref x.2.1) ∧ (x.2.2.2 = false → 0 < vs.length + x.2.2.1.length)) (fun x => [ow a 0 [.int x.1, .ref x.2.1, .int (iI (vs.length : Int))], jA x.2.2.2 x.2.1 ((1, 5), vs.map Value.ref ++ x.2.2.1), jEs "java/lang/Object" vs])
theorem AL_fold {G : jG} {a : Nat} {mc : Int32} {vs : List Nat} {arr : Nat} {junk L : List Value} {f : Bool} {n : Int} (h1 : vs.length + junk.length ≤ 1000000) (h2 : f = true → vs.length + junk.length = 0 ∧ jSV G jiEmptyArr = .ref arr) (h3 : f = false → 0 < vs.length + junk.length) (hn : n = (vs.length : Int)) (hL : L = vs.map Value.ref ++ junk) : ∀ h, jsl [ow a 0 [.int mc, .ref arr, .int (iI n)], jA f arr ((1, 5), L), jEs "java/lang/Object" vs] h → AL G a vs h := fun h hh => by
  subst hn; subst hL
  exact ⟨(mc, arr, junk, f), ⟨h1, h2, h3⟩, hh⟩
/-- a list and an iterator over it, at place n -/
def ALit (G : jG) (a it n : Nat) (vs : List Nat) : jP := jbun (fun x : Int32 × Nat × List Value × Bool × Int32 => vs.length + x.2.2.1.length ≤ 1000000 ∧ (x.2.2.2.1 = true → vs.length + x.2.2.1.length = 0 ∧ jSV G jiEmptyArr = .ref x.2.1) ∧ (x.2.2.2.1 = false → 0 < vs.length + x.2.2.1.length)) (fun x => [ow a 0 [.int x.1, .ref x.2.1, .int (iI (vs.length : Int))], jA x.2.2.2.1 x.2.1 ((1, 5), vs.map Value.ref ++ x.2.2.1), jEs "java/lang/Object" vs, ow it 14 [.int (iI (n : Int)), .int x.2.2.2.2, .int x.1, .ref a]])
theorem ALit_fold {G : jG} {a it n : Nat} {mc lr : Int32} {vs : List Nat} {arr : Nat} {junk : List Value} {f : Bool} {z : Int} (h1 : vs.length + junk.length ≤ 1000000) (h2 : f = true → vs.length + junk.length = 0 ∧ jSV G jiEmptyArr = .ref arr) (h3 : f = false → 0 < vs.length + junk.length) (hz : z = (n : Int)) : ∀ h, jsl [ow a 0 [.int mc, .ref arr, .int (iI (vs.length : Int))], jA f arr ((1, 5), vs.map Value.ref ++ junk), jEs "java/lang/Object" vs, ow it 14 [.int (iI z), .int lr, .int mc, .ref a]] h → ALit G a it n vs h := fun h hh => by
  subst hz
  exact ⟨(mc, arr, junk, f, lr), ⟨h1, h2, h3⟩, hh⟩
theorem ALit_has {G : jG} {a it n : Nat} {vs : List Nat} : jhas (ALit G a it n vs) it 14 := jhas_bun fun x _ => ⟨3, false, _, rfl⟩
theorem AL_has {G : jG} {a : Nat} {vs : List Nat} : jhas (AL G a vs) a 0 := jhas_bun fun x _ => ⟨0, false, _, rfl⟩
theorem al_at {vs : List Nat} {junk : List Value} {i v : Nat} (h : vs[i]? = some v) : (vs.map Value.ref ++ junk)[i]? = some (.ref v) := by
  rw [List.getElem?_append_left (by rw [List.length_map]; exact jlt h), List.getElem?_map, h]; rfl
theorem al_add {vs : List Nat} {junk : List Value} {v : Nat} (h : 0 < junk.length) : (vs.map Value.ref ++ junk).set vs.length (.ref v) = (vs ++ [v]).map Value.ref ++ junk.drop 1 := by
  match junk, h with
  | x :: r, _ =>
    rw [List.set_append_right _ _ (by rw [List.length_map]; exact Nat.le_refl _), List.length_map, Nat.sub_self]
    simp
theorem al_set {vs : List Nat} {junk : List Value} {i v : Nat} (h : i < vs.length) : (vs.map Value.ref ++ junk).set i (.ref v) = (vs.set i v).map Value.ref ++ junk := by
  rw [List.set_append_left _ _ (by rw [List.length_map]; exact h), List.map_set]
theorem jcpy_al {vs : List Nat} {junk : List Value} {n : Nat} (h : vs.length ≤ n) : jcpy (vs.map Value.ref ++ junk) (List.replicate n .null) 0 0 vs.length = vs.map Value.ref ++ List.replicate (n - vs.length) .null := by
  unfold jcpy
  rw [List.take_zero, List.nil_append, List.drop_zero, List.take_append_of_le_length (by rw [List.length_map]; exact Nat.le_refl _), List.take_of_length_le (by rw [List.length_map]; exact Nat.le_refl _), List.drop_replicate, Nat.zero_add]
theorem al_len (vs : List Nat) (junk : List Value) : (vs.map Value.ref ++ junk).length = vs.length + junk.length := by rw [List.length_append, List.length_map]
theorem iI_shr1 {n : Nat} (h : n ≤ 2147483647) : iI (n : Int) >>> (iI 1 &&& 31) = iI ((n / 2 : Nat) : Int) := by
  have e1 : (iI 1 &&& 31) = (1 : Int32) := by decide
  rw [e1]
  apply Int32.toInt_inj.mp
  rw [iI_nat (by omega), pk_shr (iI (n : Int)) 1 1 (by decide), iI_nat h]
  show (n : Int) >>> 1 = _
  rw [Int.shiftRight_eq_div_pow]
  rfl
theorem iI_eqn {z : Int} {n : Nat} (h : z = (n : Int)) (hn : n ≤ 2147483647) : (iI z).toInt = (n : Int) := by
  subst h; exact iI_nat hn
theorem jrf_cat {v : Value} (h : v = .null ∨ ∃ a, v = .ref a) : v.category = 1 := by
  rcases h with h | ⟨a, h⟩ <;> rw [h] <;> rfl
/-- a byte, as a baload reads it -/
def sb (n : Nat) : Int := if n < 128 then (n : Int) else (n : Int) - 256
theorem sb_and : ∀ n : Nat, n < 256 → iI (sb n) &&& iI 255 = iI (n : Int) := by
  have h : ∀ n : Fin 256, iI (sb n.val) &&& iI 255 = iI (n.val : Int) := by decide +kernel
  exact fun n hn => h ⟨n, hn⟩
theorem sb_i2b : ∀ n : Nat, n < 256 → (iI (n : Int)).toInt8.toInt32 = iI (sb n) := by
  have h : ∀ n : Fin 256, (iI (n.val : Int)).toInt8.toInt32 = iI (sb n.val) := by decide +kernel
  exact fun n hn => h ⟨n, hn⟩
theorem sb_nar : ∀ n : Nat, n < 256 → narrow .byte (.int (iI (sb n))) = .int (iI (sb n)) := by
  have h : ∀ n : Fin 256, narrow .byte (.int (iI (sb n.val))) = .int (iI (sb n.val)) := by decide +kernel
  exact fun n hn => h ⟨n, hn⟩
theorem sb_fits : ∀ n : Nat, n < 256 → fits .byte (.int (iI (sb n))) = true := by
  have h : ∀ n : Fin 256, fits .byte (.int (iI (sb n.val))) = true := by decide +kernel
  exact fun n hn => h ⟨n, hn⟩
theorem sb_rg (n : Nat) (h : n < 256) : -128 ≤ sb n ∧ sb n ≤ 127 := by unfold sb; split <;> omega
theorem sb_inj {m n : Nat} (hm : m < 256) (hn : n < 256) (h : sb m = sb n) : m = n := by
  unfold sb at h; split at h <;> split at h <;> omega
def lb (cs : List Nat) : List Value := cs.map (fun c => .int (iI (sb c)))
theorem lb_len (cs : List Nat) : (lb cs).length = cs.length := by simp [lb]
theorem lb_at {cs : List Nat} {i c : Nat} (h : cs[i]? = some c) : (lb cs)[i]? = some (.int (iI (sb c))) := by simp [lb, h]
/-- a String of Latin-1 letters -/
def jLs (a : Nat) (cs : List Nat) : jP := jbun (fun v : Nat => (∀ c ∈ cs, c < 256) ∧ cs.length ≤ 1000000) (fun v => [im a 2 [.ref v, .int (iI 0)], ia v 0 (lb cs)])
theorem jLs_fold {a v : Nat} {cs : List Nat} {L : List Value} {z : Int} (h1 : ∀ c ∈ cs, c < 256) (h2 : cs.length ≤ 1000000) (hz : z = 0) (hL : L = lb cs) : ∀ h, jsl [im a 2 [.ref v, .int (iI z)], ia v 0 L] h → jLs a cs h := fun h hh => by
  subst hz; subst hL
  exact ⟨v, ⟨h1, h2⟩, hh⟩
theorem jLs_has {a : Nat} {cs : List Nat} : jhas (jLs a cs) a 2 := jhas_bun fun x _ => ⟨0, true, _, rfl⟩
theorem jpers_jLs {a : Nat} {cs : List Nat} : jpers (jLs a cs) := jpers_bun fun v _ P hP => by
  rcases List.mem_cons.mp hP with e | e
  · rw [e]; exact jpers_A
  · rw [List.mem_singleton.mp e]; exact jpers_A
/-- a constant's text -/
theorem jt_ldcLs {M : jM} {l : Launch} {G : jG} {d C : Nat} {Q : jQ} {X : jX} {Φ : List jP} {pc : Nat} {lv : List (Nat × Value)} {st : List Value} {b : Nat} (k : Nat) (bs : List Nat) (hk : jkb[k]? = some bs) (hs : ∀ x ∈ bs, x < 128) (hl : bs.length ≤ 1000000) (h : jT M l G d C Q X (jLs (jKA G k) bs :: Φ) pc lv st b) : jT M l G d C Q X Φ pc lv st b := by
  refine jr_g0 (fun hg0 => ?_)
  obtain ⟨v, h1, h2⟩ := hg0.2.2.2.2.2.2.2 k bs hk
  have e : bs.map (fun x => Value.int (Int32.ofNat x)) = lb bs := by
    unfold lb
    apply List.map_congr_left
    intro x hx
    have hx := hs x hx
    have : sb x = (x : Int) := by unfold sb; rw [if_pos hx]
    rw [this]
    rfl
  rw [e] at h2
  refine jt_old h2 (jt_old h1 ?_)
  exact jt_fold (A := [im (jKA G k) 2 [.ref v, .int (iI 0)], ia v 0 (lb bs)]) (P := jLs (jKA G k) bs) (jLs_fold (fun c hc => by have := hs c hc; omega) hl rfl rfl) h
/-- room for one element more: units -/
def addC (n : Nat) : Nat := (n + n / 2 + 17) / 4
