/-! a static method named in a class below the one that declares it: the named class and the method are resolved as the call is first met, then the call is as any other -/
section JSI
variable {p : Program} {l : Launch} {e : Env} {R : Room} {s : State} {m : MethodId} {args : Array Value} {below : List Frame} {meth : Method} {c : Code} {T : State} {locs : List Loc} {cells slots : Nat}
theorem j_coldS {Q : Unit → Pre} {E : CtlPost} {d : Bool} {acts : List Action} {s₀ : State} {f : JFrame} {index ci n cN : Nat} {mk : MethodId} {dk ck : Class} {cf : ClassFile} {nm ds : String} (hs : s.topJava?.isSome) (hp : e.platform.polymorphicOnlyByInvokevirtual = true) (hW : s₀.WarmedH s.vm) (hE : s₀.MethodEntryUp e s.vm f.method.cls index cN mk ci) (hd : s₀.vm.classes[f.method.cls]? = some dk) (hcf : dk.cf = some cf)
    (href : cf.constantPool[index]? = some (if false then .interfaceMethodref ci n else .methodref ci n)) (hnt : cf.constantPool.nameAndType? n = some (nm, ds)) (hck : s₀.vm.classes[cN]? = some ck) (hno : (ck.methods.any fun x => x.name == nm && !x.isStatic && signaturePolymorphic ck x) = false) :
    Sem.wp (Op.invokestatic.sem index) Q E e d acts (s.setTop f) ↔ Sem.wp (Op.invokestatic.sem index) Q E e d acts ((s.setVm (s.vm.calledUp f.method.cls ci index cN mk)).setTop f) := by
  obtain ⟨g1, -, w1, g2⟩ := hE.classFirst
  have al := hE.warmed.alike
  obtain ⟨kA, a1, a2⟩ := hW.alike.2.2 _ _ hd
  obtain ⟨kB, b1, b2⟩ := al.2.2 _ _ hd
  obtain ⟨kC, c1, c2⟩ := w1.alike.2.2 _ _ hck
  obtain ⟨kD, d1, d2⟩ := al.2.2 _ _ hck
  have rA := memberRef_ask_via (e := e) a1 (by rw [a2]; exact hcf) href hnt
  have rB := memberRef_ask_via (e := e) b1 (by rw [b2]; exact hcf) href hnt
  have t1 : (s.setVm (s.vm.noted f.method.cls ci (.cls cN))).topJava?.isSome := hs
  have t2 : (s.setVm (s.vm.calledUp f.method.cls ci index cN mk)).topJava?.isSome := hs
  have hnoC : (kC.methods.any fun x => x.name == nm && !x.isStatic && signaturePolymorphic kC x) = false := by rw [c2]; exact hno
  have hnoD : (kD.methods.any fun x => x.name == nm && !x.isStatic && signaturePolymorphic kD x) = false := by rw [d2]; exact hno
  have k1 : ∀ {Q' : ClassId → Pre} {d' : Bool} {ac : List Action}, Sem.wp (Jvm.resolveClassAt ci) Q' E e d' ac (s.setTop f) ↔ Q' cN d' ac ((s.setVm (s.vm.noted f.method.cls ci (.cls cN))).setTop f) := W.resolveClassAt_links (t := s.setTop f) (State.method?_setTop f hs) g1
  have k2 : ∀ {Q' : MethodId → Pre} {d' : Bool} {ac : List Action}, Sem.wp (Jvm.resolveMethodAt index) Q' E e d' ac ((s.setVm (s.vm.noted f.method.cls ci (.cls cN))).setTop f) ↔ Q' mk d' ac ((s.setVm (s.vm.calledUp f.method.cls ci index cN mk)).setTop f) := W.resolveMethodAt_links (t := (s.setVm (s.vm.noted f.method.cls ci (.cls cN))).setTop f) (State.method?_setTop f t1) g2
  have k3 := fun (Q' : ClassId → Pre) (d' : Bool) (ac : List Action) => W.resolveClassAt_ready (Q := Q') (E := E) (e := e) (d := d') (acts := ac) (s := (s.setVm (s.vm.calledUp f.method.cls ci index cN mk)).setTop f) (State.method?_setTop f t2) hE.classReady
  have k4 := fun (Q' : MethodId → Pre) (d' : Bool) (ac : List Action) => W.resolveMethodAt_ready (Q := Q') (E := E) (e := e) (d := d') (acts := ac) (s := (s.setVm (s.vm.calledUp f.method.cls ci index cN mk)).setTop f) (State.method?_setTop f t2) hE.ready
  simp [Op.invokestatic.sem, hp, Seam.memberRefOf, State.method?_setTop f hs, State.method?_setTop f t2, rA, rB, k1, k2, k3, k4, c1, d1, hnoC, hnoD, -Array.any_eq_true]
theorem j_staticUp (X : Stand p l e R s m args below meth c T locs cells slots) (hexec : p.tables.exec = Jvm.exec) {own owner : String} {index : Nat} {x : MethodName} (hown : s.vm.findClass own = some m.cls) (hlink : (Cond.methodLink own index x).before args s = true) (hsame : (Cond.sameMethod x.cls owner x.name x.desc).before args s = true) (hno : owner ≠ "java/lang/invoke/MethodHandle" ∧ owner ≠ "java/lang/invoke/VarHandle")
    {mk : MethodId} {methM : Method} {kP : Class} (hn : s.methodNamed? ⟨owner, x.name, x.desc⟩ = some mk) (hm : s.vm.method? mk = some methM) (hst : methM.isStatic = true) (hkP : s.vm.classes[mk.cls]? = some kP) (hini : kP.init = .initialized) {g : JFrame} (hg : g.method = m) {argsL rest : List Value} (hlen : argsL.length = methM.sig.parameters.length) (hstack : g.stack = argsL.reverse ++ rest) (hdg : decode c.code g.pc = .ok (.invokestatic index, 3)) :
    ∃ vm₁, Stand p l e R s m args below meth c (T.setVm vm₁) locs cells slots ∧ ∀ target, (∀ acts, Steps p.tables e below (doInvoke e ((T.setVm vm₁).setTop { g with stack := rest }) acts mk argsL.toArray).1 target) → Steps p.tables e below (T.setTop g) target := by
  subst hg
  obtain ⟨cN, ck, r1, f1, f2, f3, f4, f5⟩ := Cond.sameMethod_found hsame
  cases hn.symm.trans f5
  obtain ⟨ci, hl, hr⟩ := Cond.methodLink_specUp hown f1 f2 f3 f4 hlink e.platform (by rw [X.admits.platform]) (by rw [X.admits.platform])
  have hE := State.methodEntryUp (e := e) X.warmed hl hr
  have al := hE.warmed.alike
  obtain ⟨dk, cfile, nt, nm, ds, ck', -, -, d1, d2, d3, d4, -, -, d5, -, d6, -⟩ := hl.here
  cases f2.symm.trans d5
  obtain ⟨kA, a1, a2⟩ := al.2.2 _ _ d1
  obtain ⟨kB, b1, b2⟩ := al.2.2 _ _ hkP
  obtain ⟨kC, c1, c2⟩ := al.2.2 _ _ f2
  obtain ⟨kx, x1, x2⟩ := className_of_methodNamed hn
  cases hkP.symm.trans x1
  have no1 : (ck.methods.any fun y => y.name == nm && !y.isStatic && signaturePolymorphic ck y) = false := by simp [d6]
  have no2 : (kC.methods.any fun y => y.name == nm && !y.isStatic && signaturePolymorphic kC y) = false := by rw [c2]; exact no1
  have d3' : cfile.constantPool[index]? = some (if false then .interfaceMethodref ci nt else .methodref ci nt) := d3
  refine ⟨_, X.noted hE.warmed, fun target h => ?_⟩
  have hpm : (T.vm.calledUp g.method.cls ci index cN mk).method? mk = some methM := by rw [al.method?]; exact hm
  have hsp : signaturePolymorphic kB methM = false := by rw [b2]; show signaturePolymorphic kP methM = false; simp [signaturePolymorphic, x2, hno.1, hno.2]
  jvm_step X.here [hexec, hdg, j_coldS (e := e) (s := T) (s₀ := s) (f := g) X.here.top (by rw [X.admits.platform]) X.warmed hE d1 d2 d3' d4 f2 no1,
    Op.invokestatic.wp_ready (e := e) (s := T.setVm (T.vm.calledUp g.method.cls ci index cN mk)) (k := kB) (meth := methM) (m := mk) (args := argsL) (rest := rest) (f := g) X.here.top ⟨ci, nm, ds, false, cN, kC, memberRef_ask_via (e := e) a1 (by rw [a2]; exact d2) d3' d4, hE.classReady, c1, no2⟩ hE.ready b1 hpm hsp hst (by rw [b2]; exact hini) hlen hstack]
  exact fun acts => h _
theorem jx_callSI (X : Stand p l e R s m args below meth c T locs cells slots) (hexec : p.tables.exec = Jvm.exec) {own : String} {index : Nat} {owner : String} {x y : MethodName} {bytes : ByteArray} {maxL : Nat} {ret : Option FieldType}
    (hown : s.vm.findClass own = some m.cls) (hyx : y = ⟨owner, x.name, x.desc⟩) (hlink : (Cond.methodLink own index x).before args s = true) (hsame : (Cond.sameMethod x.cls owner x.name x.desc).before args s = true) (hstat : (Cond.static y).before args s = true) (hinit : (Cond.initialized y.cls).before args s = true)
    (hcode : (Cond.code y bytes maxL ret).before args s = true) (hy : owner ≠ "java/lang/invoke/MethodHandle" ∧ owner ≠ "java/lang/invoke/VarHandle")
    {W : Nat} {Pre : Pt → Array Value → Prop} {Post : Pt → Array Value → Option Value → Pt → Prop} {PostX : Pt → Array Value → Addr → Pt → Prop} (hK : jx_Back l R p e below s args y 3 W Pre Post PostX)
    {g : JFrame} (hg : g.method = m) (hsize : g.locals.size = c.maxLocals) {argsL rest : List Value} (hlen : ∀ sig, parseMethodDescriptor y.desc = some sig → argsL.length = sig.parameters.length)
    (hstack : g.stack = argsL.reverse ++ rest) (hW : 2 * g.monitorRoom + (rest.map fun v => v.category).sum ≤ W) (hdg : decode c.code g.pc = .ok (.invokestatic index, 3))
    (hpre : ∀ vm₁, s.WarmedH vm₁ → Pre ⟨T.setVm vm₁, locs, cells, slots⟩ argsL.toArray) :
    (∃ (v : Option Value) (vm₁ : Vm) (B : Pt), s.WarmedH vm₁ ∧ Stand p l e R s m args below meth c B.U B.locs B.cells B.slots ∧ Post ⟨T.setVm vm₁, locs, cells, slots⟩ argsL.toArray v B ∧
      ∀ target, Steps p.tables e below (B.U.setTop { g with pc := g.pc + 3, stack := v.toList ++ rest }) target → Steps p.tables e below (T.setTop g) target) ∨
    (∃ (q : Addr) (vm₁ : Vm) (B : Pt), s.WarmedH vm₁ ∧ Stand p l e R s m args below meth c B.U B.locs B.cells B.slots ∧ PostX ⟨T.setVm vm₁, locs, cells, slots⟩ argsL.toArray q B ∧
      Steps p.tables e below (T.setTop g) ((B.U.setTop { g with stack := rest }).pushFrame (.throwing q))) := by
  obtain ⟨mk, hnamed⟩ := Cond.code_named hcode
  obtain ⟨methM, cM, hmethM, -, -, -, -, -, -, hsigM⟩ := Cond.code_spec hnamed hcode
  have hstatic : methM.isStatic = true := Cond.static_spec hnamed hmethM hstat
  obtain ⟨kP, hkP, -⟩ := className_of_methodNamed hnamed
  have hinitP : kP.init = .initialized := Cond.initialized_spec (findClass_of_methodNamed hnamed) hkP hinit
  obtain ⟨vm₁, X₁, hstep₁⟩ := j_staticUp X hexec hown hlink hsame hy (by rw [← hyx]; exact hnamed) hmethM hstatic hkP hinitP (g := g) hg (argsL := argsL) (rest := rest) (hlen _ hsigM) hstack hdg
  rcases hK m meth c ⟨T.setVm vm₁, locs, cells, slots⟩ { g with stack := rest } (.invokestatic index) mk argsL.toArray X₁ hg hsize hdg hW (X₁.named hnamed) (hpre vm₁ X₁.warmed) with ⟨v, B, X', hpost, hsteps⟩ | ⟨q, B, X', hpost, hsteps⟩
  · exact Or.inl ⟨v, vm₁, B, X₁.warmed, X', hpost, fun target h => hstep₁ _ fun acts => by rw [doInvoke_state]; exact hsteps.trans h⟩
  · exact Or.inr ⟨q, vm₁, B, X₁.warmed, X', hpost, hstep₁ _ fun acts => by rw [doInvoke_state]; exact hsteps⟩
end JSI
section JSI2
variable {p : Program} {l : Launch} {e : Env} {R : Room} {s : State} {m : MethodId} {args : Array Value} {below : List Frame} {meth : Method} {c : Code} {H : Heap} {locs : List Loc} {cells slots : Nat}
theorem jx_runSI {y : MethodName} {bytes cc : ByteArray} {maxL nL mc ms n index : Nat} {ret : Option FieldType} {ws : List Cond} {rm : Room} {Pc : Array Value → State → Prop} {Qc : Array Value → State → Outcome → State → Prop} {XC : String → Addr → State → State → Prop} {free : Addr → Prop} {Ts : List Cond} {own owner : String} {x : MethodName} {As rest : List Value} {g : JFrame}
    (S : CallFix p m c cc nL s args Ts own) (hM : jx_Met l y ws rm Pc Qc XC mc ms free) (hback : rm.cells = mc ∧ rm.slots = ms ∧ rm.frames + 1 ≤ R.frames ∧ 8 + (maxL + 11) + rm.locals ≤ R.locals ∧ (∀ w ∈ ws, ∀ (a' : Array Value) (U : State), s.WarmedH U.vm → w.before a' U = true) ∧ Cond.code y bytes maxL ret ∈ ws) (hcode : (Cond.code y bytes maxL ret).before args s = true) (hini : (Cond.initialized y.cls).before args s = true) (hy : owner ≠ "java/lang/invoke/MethodHandle" ∧ owner ≠ "java/lang/invoke/VarHandle") (hlen : ∀ sig, parseMethodDescriptor y.desc = some sig → n = sig.parameters.length) (hyx : y = ⟨owner, x.name, x.desc⟩) (hl : (Cond.methodLink own index x).before args s = true) (hsm : (Cond.sameMethod x.cls owner x.name x.desc).before args s = true) (hx1 : (Cond.static y).before args s = true) (hp : PreS s H Pc As)
    (hg : g.method = m) (hn : As.length = n) (hsize : g.locals.size = nL) (hstack : g.stack = As.reverse ++ rest) (hW : 2 * g.monitorRoom + (rest.map fun v => v.category).sum ≤ 8) (hdg : decode cc g.pc = .ok (.invokestatic index, 3)) (hf : cells + mc ≤ R.cells ∧ slots + ms ≤ R.slots) :
    jx_Run p l e R s m args below meth c H locs cells slots mc ms g rest (Qc As.toArray) XC free := by
  obtain ⟨hrc, hrs, hfr, hlo, hws, hcw⟩ := hback
  have hK : jx_Back l R p e below s args y 3 8 (PreOf R mc ms Pc) (PostOf Qc mc ms free) (jx_Post XC mc ms free) := jx_back (bytes := bytes) (maxL := maxL) (ret := ret) hM hp.1 hrc hrs hfr hlo hws hcw (fun a' U hW => word_at hW (Or.inl (by first | rfl | simp [Cond.onTables, Cond.keeps, Cond.steady])) hini)
  obtain ⟨hx, hb, hml, ho, -⟩ := S
  have hPc := hp.2
  intro T hT X
  rcases jx_callSI X hx (bytes := bytes) (maxL := maxL) (ret := ret) ho hyx hl hsm hx1 hini hcode hy hK hg (hsize.trans hml.symm) (argsL := As) (rest := rest) (fun sig h => hn.trans (hlen sig h)) hstack hW (by rw [hb]; exact hdg)
    (fun vm₁ hW₁ => ⟨hf.1, hf.2, hPc (T.setVm vm₁) hT hW₁⟩) with ⟨v, vm₁, ⟨U', l2, c2, s2⟩, hW₁, X', ⟨g', mk, t, L, e1, e2, hq, h1, hL, h2, h3⟩, st⟩ | ⟨q, vm₁, ⟨U', l2, c2, s2⟩, hW₁, X', ⟨g', mk, t, L, E, ce, e1, e2, hq, hce, hcv, hcl, h1, hL, h2, h3⟩, st⟩
  · dsimp only [Pt.U, Pt.locs, Pt.cells, Pt.slots] at X' e1 e2 h1 h2 h3 st
    subst h1; subst h2; subst h3
    exact Or.inl ⟨v, (T.setVm vm₁).calling g' mk As.toArray, t, U', L, hT, X', hL, e1, e2, hq, st⟩
  · dsimp only [Pt.U, Pt.locs, Pt.cells, Pt.slots] at X' e1 e2 h1 h2 h3 st hcl
    subst h1; subst h2; subst h3
    exact Or.inr ⟨q, (T.setVm vm₁).calling g' mk As.toArray, t, U', L, E, ce, hT, X', hL, e1, e2, hq, hce, hcv, jx_cls hW₁ hcl, st⟩
end JSI2
section JSI3
variable {M : jM} {l : Launch} {G : jG} {d C : Nat} {Q : jQ} {X : jX} {Φ Φ' : List jP} {pc : Nat} {lv lv' : List (Nat × Value)} {rest : List Value} {b : Nat}
variable {y : MethodName} {My : jM} {dy c0 : Nat} {Φc Φr : List jP} {Qy : jQ} {index : Nat}
theorem jr_callSI {x : MethodName} {owner : String} (As : List Value) (hS : jS l G y My dy As Φc c0 Qy) (hyx : y = ⟨owner, x.name, x.desc⟩) (hhn : My.2.2.2.2.2 = none) (hlink : Cond.methodLink M.2.1 index x ∈ lw_all) (hsame : Cond.sameMethod x.cls owner x.name x.desc ∈ lw_all) (hstat : Cond.static y ∈ lw_all) (hini : Cond.initialized y.cls ∈ lw_all) (hcode : jcode y My) (hpar : jpar y As.length) (hd : dy < d) (hL : My.2.2.1 ≤ 45) (hroom : (rest.map fun v => v.category).sum ≤ 8) (is pd : List Nat) (hnd : jnd pd is = true) (hpd : jpl Φ pd) (hpick : is.map (fun i => Φ[i]?) = (Φc ++ Φr).map some) (hb : c0 ≤ b) (hdg : decode M.1 pc = .ok (.invokestatic index, 3))
    (kk : ∀ v Ψ, Qy (.returned v) Ψ → jT M l G d C Q X (Ψ ++ Φr) (pc + 3) lv (v.toList ++ rest) (b - c0)) (kx : ∀ q Ψ, Qy (.threw q) Ψ → jTx M l G d C Q X (Ψ ++ Φr) pc lv rest (b - c0) q) : jT M l G d C Q X Φ pc lv (As.reverse ++ rest) b := by
  obtain ⟨p, e, s, m, args, below, meth, c, F⟩ := X
  intro D H locs cells slots ls h1 h2 h3 h4 h5
  have hts := D.2.2.2.2.2.2.1
  have hK := D.2.2.2.2.2.2.2.1
  have hsat : jsat G (Φc ++ (Φr ++ F)) H := by rw [← List.append_assoc]; exact jsat_pickP is pd hnd hpd hpick h1
  have hS' := hS D.2.2.2.2.2.2.2.2.2.1 (Φr ++ F)
  obtain ⟨cc, own, nL, ret, nm, hh⟩ := My
  dsimp only at hhn
  subst hhn
  have hcm : Cond.code y cc nL ret ∈ lw_all := hcode
  have hlen : ∀ sig, parseMethodDescriptor y.desc = some sig → As.length = sig.parameters.length := fun sig hs => by
    have := hpar.2.2
    rw [hs] at this
    exact (Option.some.inj this).symm
  have hR := jroom (c0 := c0) (C := C) hd hL
  exact jrun_fin (n3 := 3) D h2 h3 h4 h5 hb (jx_runSI (As := As) (rest := rest) ⟨D.1, D.2.1, D.2.2.1, D.2.2.2.1, hts⟩ hS' ⟨rfl, rfl, hR.1, hR.2, pay_in hts (lw_meth hcm), List.mem_cons_self⟩ (hts _ hcm) (hts _ hini) (by have := hpar.1; rw [hyx] at this; have h9 := hpar.2.1; rw [hyx] at h9; exact ⟨this, h9⟩) hlen hyx (hts _ hlink) (hts _ hsame) (hts _ hstat) ⟨jPc_blind, fun U hU hW => ⟨rfl, jKn.warm hW hK, by rw [hU]; exact hsat⟩⟩ rfl rfl h5.1 rfl (lv_room hroom) hdg ⟨by show cells + c0 ≤ C; omega, by show slots + 4 * c0 ≤ 4 * C; omega⟩) kk kx
end JSI3
