/-! 'throw new E()' in a contract's walk -/
set_option maxRecDepth 100000
section Ends2
variable {p : Program} {l : Launch} {e : Env} {R : Room} {s : State} {m : MethodId} {args : Array Value} {below : List Frame} {meth : Method} {c : Code} {H : Heap} {locs : List Loc} {cells slots : Nat} {Q : State → Prop}
variable {mc ms : Nat} {free : Addr → Prop} {A0 A1 : Nat → Prop} {H0 : Heap} {a : Array Value} {ls : Array Slot} {st0 rest : List Value}
variable {Qc : Array Value → State → Outcome → State → Prop} {XC : String → Addr → State → State → Prop}
/-- 'throw new E()': new; dup; invokespecial; athrow -/
theorem jx_throw0H {cc : ByteArray} {pc : Nat} (hexec : p.tables.exec = Jvm.exec) (hb : c.code = cc) (hl : l.stackTraces = false) {own cls : String} {names : List String} {ik ic mc ms : Nat} {A : Nat → Prop}
    (hown : s.vm.findClass own = some m.cls) (hcls : Bundle.fit cls = true) (hnames : ∀ n ∈ names, Bundle.fit n = true)
    (hk : (Cond.classLink own ik cls).before args s = true) (hini : (Cond.initialized cls).before args s = true) (hat : ∀ w ∈ jx_at0 own ic cls names, w.before args s = true)
    (hgood : ∀ w ∈ Cond.classLink own ik cls :: Cond.initialized cls :: jx_at0 own ic cls names, jx_ot w = true)
    (hU : jx_Zq Bundle.tN "UNASSIGNED_STACK" Bundle.steD A s H) (hN : jx_Zq Bundle.tN "SUPPRESSED_SENTINEL" Bundle.listD A s H) (hsize : ls.size = c.maxLocals)
    (d0 : decode cc pc = .ok (.new ik, 3)) (d3 : decode cc (pc + 3) = .ok (.dup, 1)) (d4 : decode cc (pc + 4) = .ok (.invokespecial ic, 3)) (d7 : decode cc (pc + 7) = .ok (.athrow, 1))
    (hout : ∀ x ∈ c.exceptionTable.toList, covers x (pc + 7) = false)
    (hRframes : names.length + 3 < R.frames) (hRlocals : (rest.map fun v => v.category).sum + (13 * (names.length + 1) + 42) ≤ R.locals) (hRcells : cells + 1 ≤ R.cells) (hRslots : slots + 6 ≤ R.slots) (hlocks : meth.locks = false)
    (hx : ∀ t : State, s.vm.Alike t.vm → H.size ≤ t.heap.size → (∀ q : Nat, q < H.size → t.heap[q]? = H[q]?) → (∃ ce : Cell, t.heap[H.size]? = some ce ∧ ce.vm = .none ∧ s.vm.findClass cls = some ce.cls) → XC cls H.size s t)
    (hf : ∀ z ∈ locs, free z.base) (hc : cells + 1 ≤ mc) (hs : slots + 6 ≤ ms) :
    W p l e R s m args below meth c H locs cells slots (jx_MQ below Qc XC args s mc ms free) (F0 m pc ls rest) := by
  intro T hT X
  have htr : e.platform.stackTraces = false := (show e.platform.stackTraces = l.stackTraces by rw [X.admits.platform]).trans hl
  have Y := jx_rebase X (R' := { frames := R.frames, locals := R.locals, cells := 1, slots := 6 }) (Nat.le_refl _) (Nat.le_refl _) hRcells hRslots
  obtain ⟨s', hA⟩ : ∃ z, z = (T.setVm s.vm).setFrames (.invoking m args :: below) := ⟨_, rfl⟩
  rw [← hA] at Y
  have hvm : s'.vm = s.vm := by rw [hA]; rfl
  have hhp : s'.heap = H := by rw [hA]; exact hT
  have hW0 : s.WarmedH s'.vm := by rw [hvm]; exact State.WarmedH.refl s
  have hat' : ∀ w ∈ jx_at0 own ic cls names, w.before args s' = true := fun w hw => jx_ot_at hW0 hvm.symm (hgood w (List.mem_cons_of_mem _ (List.mem_cons_of_mem _ hw))) (hat w hw)
  have hk' : (Cond.classLink own ik cls).before args s' = true := jx_ot_at hW0 hvm.symm (hgood _ List.mem_cons_self) hk
  have hini' : (Cond.initialized cls).before args s' = true := jx_ot_at hW0 hvm.symm (hgood _ (List.mem_cons_of_mem _ List.mem_cons_self)) hini
  have hU' : jx_Zq Bundle.tN "UNASSIGNED_STACK" Bundle.steD A s' s'.heap := by rw [hhp]; exact jx_Zq.moved hW0.alike hU
  have hN' : jx_Zq Bundle.tN "SUPPRESSED_SENTINEL" Bundle.listD A s' s'.heap := by rw [hhp]; exact jx_Zq.moved hW0.alike hN
  have h : ∀ w ∈ Bundle.ownAtoms0 own ic cls names, w.before args s' = true := jx_own hat' (jx_isRefq hU'.1) (jx_isRefq hN'.1) hU'.2.word hN'.2.word
  have hown' : s'.vm.findClass own = some m.cls := by rw [hvm]; exact hown
  have hins : (Cond.instantiable cls 6).before args s' = true := h _ (by simp [Bundle.ownAtoms0])
  obtain ⟨vm₁, cX, kX, hfX, hkX, -, -, X₁, st1⟩ := Y.newCold hexec (own := own) (C := cls) (index := ik) (n := 6) hown' hk' hins hini'
    (g := F0 m pc ls rest) rfl (by rw [hb]; exact d0) (Nat.le_refl _) (Nat.le_refl _)
  generalize hT1 : (T.setVm vm₁).pushCell { cls := cX, slots := kX.instanceTypes.map defaultValue, vm := .none } = T1 at X₁ st1
  have hcat : (Value.ref T.heap.size).category = 1 := rfl
  have hcellA : T1.heap[T.heap.size]? = some (freshCell cX kX) := by rw [← hT1]; exact State.heap_pushCell_size _ _
  have d3' : decode c.code (pc + 3) = .ok (.dup, 1) := by rw [hb]; exact d3
  obtain ⟨U, hsteps, hrun, hend, hW, hsame, ce, hce, hO⟩ := X₁.ctorThrow0 hexec htr (own := own) (cls := cls) (names := names) (ic := ic) hown' hcls hnames h (fun x hx => nomatch hx) hfX hkX hcellA (by rw [hhp, hT]; exact Nat.le_refl _)
    (g := { method := m, pc := pc + 4, locals := ls, stack := .ref T.heap.size :: .ref T.heap.size :: rest, locked := none }) rfl hsize rfl rfl (rest := rest) rfl
    (by rw [hb]; exact d4) (by rw [hb]; exact d7) hout hRframes (by simp only [List.map_cons, List.sum_cons, hcat]; omega) hlocks
  obtain ⟨f1, f2⟩ := jx_frame hsame
  rw [hhp] at f1 f2
  have hWs : s.WarmedH U.vm := State.WarmedH.trans hW0 hW
  have hcl : s.vm.findClass cls = some ce.cls := by
    have h9 := hO.cls
    rw [hvm] at h9
    exact h9
  have hall : s.sameButNew ({ U with vm := s.vm } : State) locs mc ms := by
    subst hA
    obtain ⟨e1, e2⟩ := hsame
    rw [State.setFrames_setFrames] at e1
    have h2 : (T.setVm s.vm).sameButNew ({ U with vm := s.vm } : State) [] (0 + 1) (0 + 6) := ⟨e1, e2⟩
    have h3 := X.same.trans h2
    rw [List.append_nil] at h3
    exact h3.mono hc hs
  have hx0 : XC cls T.heap.size s U := by
    have := hx U hWs.alike f1 (fun q hq => f2 q hq (fun z hz => nomatch hz)) ⟨ce, by rw [← hT]; exact hce, hO.vm, hcl⟩
    rw [hT]; exact this
  refine ⟨U, ?_, .threw T.heap.size, hrun, hend, Or.inr ⟨T.heap.size, rfl, cls, ce, locs, hx0, hce, hO.vm, hcl, hWs, hall, hf⟩⟩
  refine st1 _ ?_
  show Steps p.tables e below (T1.setTop { method := m, pc := pc + 3, locals := ls, stack := .ref T.heap.size :: rest, locked := none }) _
  jvm_step X₁.here [X₁.here.top, hexec, d3', Value.category]
  exact hsteps
end Ends2
theorem jm_n : ∀ w ∈ ([] : List Cond), w ∈ lw_all := fun _ h => nomatch h
theorem jm_c {w : Cond} {L : List Cond} (h : w ∈ lw_all) (t : ∀ w' ∈ L, w' ∈ lw_all) : ∀ w' ∈ w :: L, w' ∈ lw_all := fun w' h' => (List.mem_cons.mp h').elim (fun e => by rw [e]; exact h) (t w')
def jmo (w : Cond) : Prop := (∃ q ∈ jca, w = .castable q.1 q.2) ∨ ∃ q ∈ jde, w = .declares q
theorem jm_o : ∀ w ∈ ([] : List Cond), jmo w := fun _ h => nomatch h
theorem jm_d {q : MethodName} {L : List Cond} (h : q ∈ jde) (t : ∀ w' ∈ L, jmo w') : ∀ w' ∈ Cond.declares q :: L, jmo w' := fun w' h' => (List.mem_cons.mp h').elim (fun e => by rw [e]; exact Or.inr ⟨q, h, rfl⟩) (t w')
theorem jm_k {q : String × String} {L : List Cond} (h : q ∈ jca) (t : ∀ w' ∈ L, jmo w') : ∀ w' ∈ Cond.castable q.1 q.2 :: L, jmo w' := fun w' h' => (List.mem_cons.mp h').elim (fun e => by rw [e]; exact Or.inl ⟨q, h, rfl⟩) (t w')
section JTH
variable {M : jM} {l : Launch} {G : jG} {d C : Nat} {Q : jQ} {X : jX} {Φ Φ' : List jP} {pc : Nat} {lv : List (Nat × Value)} {st : List Value} {b : Nat}
/-- a fact of the class alone of a cell -/
theorem jsat_clsat {G : jG} {A : List jP} {H : Heap} {q k : Nat} {E : vw_C} {cell : Cell} (hE : jcl[k]? = some E) (hq : H[q]? = some cell) (hv : cell.vm = .none) (hc : cell.cls = jCid G k) (h : jsat G A H) : jsat G (jA true q ((0, k), []) :: A) H := by
  obtain ⟨hb, w, hw, hcc⟩ := h
  refine jsat_of (A := [jA true q ((0, k), [])]) hb (w := fun _ => jone q true ((0, k), [])) ⟨fun i P e => ?_, fun i j a c d hk hj hne _ _ => ?_⟩ hw (fun i j a c d hk hj h3 h4 => ?_) (fun i b c hk h3 => ?_) hcc
  · have hk : i < 1 := jlt e
    have : i = 0 := by omega
    subst this
    cases e; rfl
  · have h1 : i < 1 := hk
    have h2 : j < 1 := hj
    omega
  · obtain ⟨rfl, rfl⟩ := h3
    exact Or.inr (Or.inl ⟨rfl, Or.inl ⟨rfl, rfl⟩⟩)
  · obtain ⟨rfl, rfl⟩ := h3
    exact ⟨fun z => (by cases z), cell, hq, hv, fun _ z => absurd rfl z, E, hE, hc, fun i v z => by simp at z⟩
theorem jr_throw0 (k : Nat) {E : vw_C} (hE : jcl[k]? = some E) (names : List String) {ik ic : Nat} {L L2 : List Cond} (hcls : Bundle.fit E.1 = true) (hnames : ∀ n ∈ names, Bundle.fit n = true) (hk : Cond.classLink M.2.1 ik E.1 ∈ lw_all) (hini : Cond.initialized E.1 ∈ lw_all)
    (hL : ∀ w ∈ L, w ∈ lw_all) (hL1 : (jx_at0 M.2.1 ic E.1 names).filter goodWord = L) (hL2 : ∀ w ∈ L2, jmo w) (hL3 : (jx_at0 M.2.1 ic E.1 names).filter (fun w => !goodWord w) = L2) (hgood : (Cond.classLink M.2.1 ik E.1 :: Cond.initialized E.1 :: jx_at0 M.2.1 ic E.1 names).all jx_ot = true)
    (d0 : decode M.1 pc = .ok (.new ik, 3)) (d3 : decode M.1 (pc + 3) = .ok (.dup, 1)) (d4 : decode M.1 (pc + 4) = .ok (.invokespecial ic, 3)) (d7 : decode M.1 (pc + 7) = .ok (.athrow, 1)) (hh : M.2.2.2.2.2 = none) (hd : names.length + 3 < d) (hl : (st.map fun v => v.category).sum + (13 * (names.length + 1) + 42) ≤ 64 * d) (hb : 2 ≤ b)
    {Ψ : Nat → List jP} (hQ : ∀ q, Q (.threw q) (Ψ q)) (hs : ∀ q F H, jsat G ((im q k [] :: Φ) ++ F) H → jsat G (Ψ q ++ F) H) : jT M l G d C Q X Φ pc lv st b := by
  obtain ⟨p, e, s, m, args, below, meth, c, F⟩ := X
  intro D H locs cells slots ls h1 h2 h3 h4 h5
  obtain ⟨hx, hbb, hml, hown, hr, hlk, hts, hK, htab, hst, hnm⟩ := D
  have htab0 : c.exceptionTable.toList = [] := by rw [htab]; unfold jtable; rw [hh]
  have hbase : jbase G H := h1.1
  have hkept : ∀ a : Nat, a < (jH0 G).size → ¬ jN G ≤ a → H[a]? = (jH0 G)[a]? := fun a ha hn => hbase.2.1 a ha
  have hat : ∀ w ∈ jx_at0 M.2.1 ic E.1 names, w.before args s = true := by
    refine jx_hat (B := L2) (fun w hw => hts w (hL w (by rw [← hL1]; exact hw))) (fun w hw => by rw [← hL3]; exact hw) (fun w hw => ?_)
    rcases hL2 w hw with ⟨q, hq, e⟩ | ⟨q, hq, e⟩
    · rw [e]; exact va_Nw.use rfl (hK.ca q hq)
    · rw [e]; exact va_Nw.use rfl (hK.de q hq)
  have hgood' : ∀ w ∈ Cond.classLink M.2.1 ik E.1 :: Cond.initialized E.1 :: jx_at0 M.2.1 ic E.1 names, jx_ot w = true := fun w hw => List.all_eq_true.mp hgood w hw
  refine jx_throw0H (A := fun a => jN G ≤ a) hx hbb hst hown hcls hnames (hts _ hk) (hts _ hini) hat hgood' (hK.zu.kept hkept) (hK.zs.kept hkept) (by rw [h5.1, hml]) d0 d3 d4 d7 (fun x hx => by rw [htab0] at hx; exact nomatch hx) hd hl (by show cells + 1 ≤ C; omega) (by show slots + 6 ≤ 4 * C; omega) hlk (fun t ha hz hq hce => ?_) h2 (by omega) (by omega)
  obtain ⟨ce, e1, e2, e3⟩ := hce
  refine ⟨Ψ H.size, hQ _, hs _ F _ ?_⟩
  have h6 : jsat G (Φ ++ F) t.heap := jsat_grow h1 hz hq
  exact jsat_clsat hE e1 e2 (Option.some.inj (e3.symm.trans (hK.cl.1 k _ hE).2.1)) h6
end JTH
