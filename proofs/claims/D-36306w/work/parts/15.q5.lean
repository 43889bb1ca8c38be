/-! objects of two classes are two -/
theorem findClass_inj {vm : Vm} {a b : String} {c : ClassId} (h1 : vm.findClass a = some c) (h2 : vm.findClass b = some c) : a = b := by
  obtain ⟨hlt, p1, -⟩ := Array.findIdx?_eq_some_iff_getElem.mp h1
  obtain ⟨hlt2, p2, -⟩ := Array.findIdx?_eq_some_iff_getElem.mp h2
  simp at p1 p2
  exact p1.1.1.1.symm.trans p2.1.1.1
theorem jt_cne {M : jM} {l : Launch} {G : jG} {d C : Nat} {Q : jQ} {X : jX} {Φ : List jP} {pc : Nat} {lv : List (Nat × Value)} {st : List Value} {b : Nat} (i j : Nat) {f g : Bool} {a c k k' : Nat} {fs gs : List Value} (hi : Φ[i]? = some (jA f a ((0, k), fs))) (hj : Φ[j]? = some (jA g c ((0, k'), gs))) {r r' : vw_C} (hr : jcl[k]? = some r) (hr' : jcl[k']? = some r') (hne : r.1 ≠ r'.1) (h : a ≠ c → jT M l G d C Q X Φ pc lv st b) : jT M l G d C Q X Φ pc lv st b := by
  obtain ⟨p, e, s, m, args, below, meth, c0, F⟩ := X
  intro D H locs cells slots ls h1
  have hK := D.2.2.2.2.2.2.2.1
  refine h ?_ D H locs cells slots ls h1
  rintro rfl
  obtain ⟨-, c1, g1, m1⟩ := jsat_get (jap hi) h1
  obtain ⟨-, c2, g2, m2⟩ := jsat_get (jap hj) h1
  rw [g1] at g2; cases g2
  obtain ⟨-, -, r1, -, e1, -⟩ := m1
  obtain ⟨-, -, r2, -, e2, -⟩ := m2
  have f1 := (hK.cl.1 k _ hr).2.1
  have f2 := (hK.cl.1 k' _ hr').2.1
  have e3 : jCid G k = jCid G k' := e1.symm.trans e2
  have f1 : s.vm.findClass r.1 = some (jCid G k) := f1
  have f2 : s.vm.findClass r'.1 = some (jCid G k') := f2
  rw [← e3] at f2
  exact hne (findClass_inj f1 f2)
/-- a nest mate's private static -/
theorem jr_getsN {M : jM} {l : Launch} {G : jG} {d C : Nat} {Q : jQ} {X : jX} {Φ : List jP} {pc : Nat} {lv : List (Nat × Value)} {rest : List Value} {b : Nat} (k : Nat) {q : String × String × String} {host : String} (hk : jst[k]? = some q) {index : Nat} (hlink : (M.2.1, index, q.1, q.2.1, q.2.2, host) ∈ jfn) {v : Value} (hv : jSV G k = v) (hdg : decode M.1 pc = .ok (.getstatic index, 3))
    (h : jT M l G d C Q X Φ (pc + 3) lv (v :: rest) b) : jT M l G d C Q X Φ pc lv rest b := by
  subst hv
  obtain ⟨p, e, s, m, args, below, meth, c, F⟩ := X
  intro D H locs cells slots ls h1 h2 h3 h4 h5
  obtain ⟨cf, kf, fi, f, a, cell, q1, q2, q3, q4, q5, q6, q7, q8⟩ := D.2.2.2.2.2.2.2.1.st k q hk
  exact va_WgetsN D.1 D.2.1 D.2.2.2.1 (va_Nw.use rfl (D.2.2.2.2.2.2.2.1.fn _ hlink)) q1 q2 q3 q4 (by rw [h1.1.2.1 a (by omega)]; exact q5) (fun e => by rw [e] at q6; cases q6) q7 rfl hdg (h D H locs cells slots ls h1 h2 h3 h4 h5)
