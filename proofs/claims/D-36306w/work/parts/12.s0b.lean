/-! a byte array's clone -/
section JCL
variable {M : jM} {l : Launch} {G : jG} {d C : Nat} {Q : jQ} {X : jX} {Φ Φ' : List jP} {pc index : Nat} {lv : List (Nat × Value)} {rest : List Value} {b : Nat}
theorem jr_cloneB (i : Nat) {f : Bool} {a : Nat} {vs : List Value} (hi : Φ[i]? = some (jA f a ((1, 0), vs))) (hlink : Cond.methodLink M.2.1 index ⟨"[B", "clone", "()Ljava/lang/Object;"⟩ ∈ lw_all) (hsame : Cond.sameMethod "[B" "java/lang/Object" "clone" "()Ljava/lang/Object;" ∈ lw_all) (hnat : Cond.native ⟨"java/lang/Object", "clone", "()Ljava/lang/Object;"⟩ ∈ lw_all) (hinst : Cond.instanceMethod ⟨"java/lang/Object", "clone", "()Ljava/lang/Object;"⟩ ∈ lw_all) (hsel : Cond.selects "[B" ⟨"[B", "clone", "()Ljava/lang/Object;"⟩ ⟨"java/lang/Object", "clone", "()Ljava/lang/Object;"⟩ ∈ lw_all) (hcl : ("[B", "java/lang/Cloneable") ∈ jca) (hd : 1 ≤ d)
    (hvals : ∀ (q : Nat) (v : Value), vs[q]? = some v → fits .byte v = true) {u : Nat} (hu : vs.length ≤ 4 * u) (hu1 : 1 ≤ u) (hb : u ≤ b) (hroom : (rest.map fun v => v.category).sum ≤ 8) (hdg : decode M.1 pc = .ok (.invokevirtual index, 3))
    (k : ∀ q : Nat, jT M l G d C Q X (jA false q ((1, 0), vs) :: Φ) (pc + 3) lv (.ref q :: rest) (b - u)) : jT M l G d C Q X Φ pc lv (.ref a :: rest) b := by
  obtain ⟨p, e, s, m, args, below, meth, c, F⟩ := X
  intro D H locs cells slots ls h1 h2 h3 h4 h5
  have hts := D.2.2.2.2.2.2.1
  have hK := D.2.2.2.2.2.2.2.1
  obtain ⟨-, cs, c1, c2⟩ := jat (s := s) hi h1
  have c3 : cs = arrV (jAid G 0) vs.length (fun j => vs.getD j .null) := c2
  have hnm : s.vm.findClass "[B" = some (jAid G 0) := hK.ra 0 .byte rfl
  obtain ⟨c0, t0', f1, f2, f3⟩ := Cond.castable_spec (va_Nw.use (A := args) rfl (hK.ca _ hcl))
  cases hnm.symm.trans f1
  have hvm0 : cs.vm = .none := by rw [c3]; rfl
  have hcl0 : cs.cls = jAid G 0 := by rw [c3]; rfl
  have hsz : cs.slots.size = vs.length := by rw [c3]; exact arrV_size _ _ _
  have hcellE : ({ cls := cs.cls, slots := cs.slots } : Cell) = cs := by rw [c3]; rfl
  have kk : ∀ H1 : Heap, H1.size = H.size + 1 → H1[H.size]? = some cs → (∀ q : Nat, q < H.size → H1[q]? = H[q]?) → W p l e (jR d C) s m args below meth c H1 locs (cells + 1) (slots + vs.length) (jMQ G C Q s args below F) (F0 m (pc + 3) ls (.ref H.size :: rest)) := fun H1 z1 e1 o1 => by
    refine W.widen (k := cells + u) (n := slots + 4 * u) (by omega) (by omega) ?_
    refine k H.size D H1 locs (cells + u) (slots + 4 * u) ls ?_ h2 (by omega) (by omega) h5
    exact jsat_new h1 z1 o1 e1 c3
  intro T hT Y
  have hcellT : T.heap[a]? = some cs := by rw [hT]; exact c1
  obtain ⟨-, kA, hkA, comp, hkind⟩ := State.isArrayOf_alike Y.warmed.alike (hK.ar 0 .byte rfl 0 (fun _ => .null))
  obtain ⟨-, kS, hkS, compS, hkindS⟩ := hK.ar 0 .byte rfl 0 (fun _ => .null)
  obtain ⟨vm', Y', st⟩ := Y.cloneArray D.1 D.2.2.2.1 (hts _ hlink) (hts _ hsame) (hts _ hnat) (hts _ hinst) (hts _ hsel) (a := a) (cell := cs) hcellT (fun k h => by rw [hvm0] at h; cases h) (by rw [hvm0]; exact fun h => by cases h) (by rw [hcl0]; exact hnm) f2 (by rw [hcl0]; exact f3)
    (fun i v hv => by
      rw [hcl0]
      have hk' : T.vm.classes[jAid G 0]? = some kA := hkA
      have hv2 : vs[i]? = some v := by
        rw [c3] at hv
        have hlt : i < vs.length := by
          have := (Array.getElem?_eq_some_iff.mp hv).1
          rwa [arrV_size] at this
        rw [arrV_read _ _ hlt, List.getD_eq_getElem?_getD] at hv
        rw [List.getElem?_eq_getElem hlt] at hv ⊢
        exact hv
      simpa [State.fitsSlot, State.slotType?, hk', hkind] using hvals i v hv2)
    (g := F0 m pc ls (.ref a :: rest)) rfl (by show ls.size = _; rw [D.2.2.1]; exact h5.1) rfl (by rw [D.2.1]; exact hdg) hd (by show 2 * 0 + _ + 14 ≤ 64 * d; omega) (by show cells + 1 ≤ C; omega) (by rw [hsz]; show slots + vs.length ≤ 4 * C; omega) (hloader := by rw [hcl0]; exact Vm.clonesLoader_of_array hkS hkindS)
  rw [hcellE, hsz] at Y'
  generalize hH1 : H.push cs = H1
  have z1 : H1.size = H.size + 1 := by rw [← hH1, Array.size_push]
  have e1 : H1[H.size]? = some cs := by rw [← hH1, Array.getElem?_push_size]
  have o1 : ∀ q : Nat, q < H.size → H1[q]? = H[q]? := fun q hq => by rw [← hH1, Array.getElem?_push, if_neg (Nat.ne_of_lt hq)]
  obtain ⟨t, b1, b2⟩ := kk H1 z1 e1 o1 ((T.setVm vm').pushCell cs) (by rw [← hH1, ← hT]; rfl) Y'
  refine ⟨t, st t ?_, b2⟩
  rw [hcellE, hT]
  exact b1
theorem jr_castB (i : Nat) {f : Bool} {a : Nat} {vs : List Value} (hi : Φ[i]? = some (jA f a ((1, 0), vs))) (hlink : Cond.classLink M.2.1 index "[B" ∈ lw_all) (hdg : decode M.1 pc = .ok (.checkcast index, 3))
    (k : jT M l G d C Q X Φ (pc + 3) lv (.ref a :: rest) b) : jT M l G d C Q X Φ pc lv (.ref a :: rest) b := by
  obtain ⟨p, e, s, m, args, below, meth, c, F⟩ := X
  intro D H locs cells slots ls h1 h2 h3 h4 h5
  have hts := D.2.2.2.2.2.2.1
  have hK := D.2.2.2.2.2.2.2.1
  obtain ⟨-, cs, c1, c2⟩ := jat (s := s) hi h1
  have c3 : cs = arrV (jAid G 0) vs.length (fun j => vs.getD j .null) := c2
  have hnm : s.vm.findClass "[B" = some (jAid G 0) := hK.ra 0 .byte rfl
  intro T hT Y
  obtain ⟨vm', Y', st⟩ := Y.checkcastYes D.1 D.2.2.2.1 (hts _ hlink) (by rw [hT]; exact c1) (by rw [c3]; rfl) hnm (by rw [c3]; exact va_asg _ _) (g := F0 m pc ls (.ref a :: rest)) rfl rfl (by rw [D.2.1]; exact hdg)
  obtain ⟨t, a1, b1⟩ := k D H locs cells slots ls h1 h2 h3 h4 h5 (T.setVm vm') hT Y'
  exact ⟨t, st t a1, b1⟩
end JCL
