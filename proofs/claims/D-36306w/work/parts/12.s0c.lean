/-! private methods of the class above an object: their selection; super.m(..) -/
theorem sel_priv {s : State} {args : Array Value} {C : String} {y y' : MethodName} (h1 : (Cond.selects C y' y').before args s = true) (hcls : y'.cls = y.cls) (hpriv : (Cond.privateMethod y).before args s = true) (hinst : (Cond.instanceMethod y).before args s = true) (hy : y.cls ≠ "java/lang/invoke/MethodHandle" ∧ y.cls ≠ "java/lang/invoke/VarHandle") : (Cond.selects C y y).before args s = true := by
  obtain ⟨mk, methM, hnamed, hmethM, -, -⟩ := Cond.instanceMethod_spec hinst
  have hfound : s.methodFound? y.cls y.name y.desc = some mk := State.methodFound?_of_named hnamed hy
  have hsel : ∀ c, selectMethod {} s.vm c mk = .method mk := fun c => selectMethod_private hmethM (Cond.privateMethod_at hpriv mk methM hnamed hmethM)
  simp only [Cond.before, Cond.holds, Cond.value] at h1 ⊢
  cases hc : s.vm.findClass C with
  | none => rw [hc] at h1; simp at h1
  | some c =>
    rw [hc] at h1
    cases hf : s.methodFound? y'.cls y'.name y'.desc with
    | none => rw [hf] at h1; simp at h1
    | some r =>
      rw [hf] at h1
      cases hn : s.methodNamed? y' with
      | none => rw [hn] at h1; simp at h1
      | some m' =>
        rw [hn] at h1
        have e1 := findClass_of_methodNamed hn
        have e2 := findClass_of_methodNamed hnamed
        rw [hcls] at e1
        have e3 : m'.cls = mk.cls := Option.some.inj (e1.symm.trans e2)
        rw [hfound, hnamed]
        simp only [hsel]
        dsimp only at h1
        cases hq : selectMethod {} s.vm c r with
        | method m2 =>
          rw [hq] at h1
          simp only [Option.some.injEq, Bool.and_eq_true, Option.getD_some] at h1 ⊢
          simp at h1 ⊢
          rw [← e3]; exact h1.2
        | _ => rw [hq] at h1; simp at h1
section JCSP
variable {M : jM} {l : Launch} {G : jG} {d C : Nat} {Q : jQ} {X : jX} {Φ Φ' : List jP} {pc : Nat} {lv lv' : List (Nat × Value)} {rest : List Value} {b : Nat}
variable {y : MethodName} {My : jM} {dy c0 : Nat} {Φc Φr : List jP} {Qy : jQ} {index : Nat}
theorem lw_SU {own : String} {idx : Nat} {y : MethodName} {ws : List Cond} (h1 : Cond.methodLink own idx y ∈ lw_all) (h0 : Cond.sameMethod y.cls y.cls y.name y.desc ∈ lw_all) (h2 : Cond.superclass own y.cls ∈ lw_all) (h3 : Cond.instanceMethod y ∈ lw_all) (h4 : Cond.initialized y.cls ∈ lw_all) (h5 : GoodIn lw_all ws) : GoodIn lw_all (va_wsSU own idx y ws) := by
  refine lw_app ?_ h5
  intro w hw
  simp only [List.mem_cons, List.not_mem_nil, or_false] at hw
  rcases hw with e | e | e | e | e
  · rw [e]; exact h1
  · rw [e]; exact h0
  · rw [e]; exact h2
  · rw [e]; exact h3
  · rw [e]; exact h4
theorem jr_callSup (As : List Value) {a : Nat} (hS : jS l G y My dy (.ref a :: As) Φc c0 Qy) (hnm : y.name ≠ "<init>") (hhn : My.2.2.2.2.2 = none) (ir : Nat) {f : Bool} {k0 : Nat} {fs : List Value} (hir : Φ[ir]? = some (jA f a ((0, k0), fs))) {r : vw_C} (hr : jcl[k0]? = some r) (hlink : Cond.methodLink M.2.1 index y ∈ lw_all) (hsame : Cond.sameMethod y.cls y.cls y.name y.desc ∈ lw_all) (hinst : Cond.instanceMethod y ∈ lw_all) (hsup : Cond.superclass M.2.1 y.cls ∈ lw_all) (hini : Cond.initialized y.cls ∈ lw_all) (hcode : jcode y My) (hpar : jpar y As.length) (hd : dy < d) (hL : My.2.2.1 ≤ 45) (hroom : (rest.map fun v => v.category).sum ≤ 8) (is pd : List Nat) (hnd : jnd pd is = true) (hpd : jpl Φ pd) (hpick : is.map (fun i => Φ[i]?) = (Φc ++ Φr).map some) (hb : c0 ≤ b) (hdg : decode M.1 pc = .ok (.invokespecial index, 3))
    (kk : ∀ v Ψ, Qy (.returned v) Ψ → jT M l G d C Q X (Ψ ++ Φr) (pc + 3) lv (v.toList ++ rest) (b - c0)) (kx : ∀ q Ψ, Qy (.threw q) Ψ → jTx M l G d C Q X (Ψ ++ Φr) pc lv rest (b - c0) q) : jT M l G d C Q X Φ pc lv (As.reverse ++ .ref a :: rest) b := by
  obtain ⟨p, e, s, m, args, below, meth, c, F⟩ := X
  intro D H locs cells slots ls h1 h2 h3 h4 h5
  have hts := D.2.2.2.2.2.2.1
  have hK := D.2.2.2.2.2.2.2.1
  have hrv : ∃ cell : Cell, H[a]? = some cell ∧ cell.vm.isStatics = false ∧ s.vm.findClass r.1 = some cell.cls := by
    obtain ⟨-, cell, g1, g2, -, r', g3, g4, -⟩ := jat (s := s) hir h1
    cases Option.some.inj (g3.symm.trans hr)
    exact ⟨cell, g1, by rw [g2]; rfl, by rw [g4]; exact (hK.cl.1 k0 _ hr).2.1⟩
  have hsat : jsat G (Φc ++ (Φr ++ F)) H := by rw [← List.append_assoc]; exact jsat_pickP is pd hnd hpd hpick h1
  have hS' := hS D.2.2.2.2.2.2.2.2.2.1 (Φr ++ F)
  obtain ⟨cc, own, nL, ret, nm, hh⟩ := My
  dsimp only at hhn
  subst hhn
  exact jrun_fin (n3 := 3) D h2 h3 h4 h5 hb (jx_runSU (hK.cl.1 k0 _ hr).2 (As := As) (rest := rest) ⟨D.1, D.2.1, D.2.2.1, D.2.2.2.1, hts⟩ hS' (va_cwSU As.length hts (lw_SU hlink hsame hsup hinst hini (lw_meth hcode)) rfl rfl rfl ⟨hnm, hpar.2.2⟩ (jroom hd hL)) ⟨jPc_blind, hrv, fun U hU hW => ⟨rfl, jKn.warm hW hK, by rw [hU]; exact hsat⟩⟩ rfl rfl h5.1 rfl (lv_room hroom) hdg ⟨by show cells + c0 ≤ C; omega, by show slots + 4 * c0 ≤ 4 * C; omega⟩) kk kx
theorem lw_O {own : String} {idx : Nat} {C owner : String} {x y : MethodName} {ws : List Cond} (h1 : Cond.methodLink own idx x ∈ lw_all) (h0 : Cond.sameMethod x.cls owner x.name x.desc ∈ lw_all) (h6 : Cond.instanceMethod ⟨owner, x.name, x.desc⟩ ∈ lw_all) (h2 : Cond.selects C x y ∈ lw_all) (h3 : Cond.instanceMethod y ∈ lw_all) (h4 : Cond.initialized y.cls ∈ lw_all) (h5 : GoodIn lw_all ws) : GoodIn lw_all (va_wsO own idx C owner x y ws) := by
  refine lw_app ?_ h5
  intro w hw
  simp only [List.mem_cons, List.not_mem_nil, or_false] at hw
  rcases hw with e | e | e | e | e | e
  · rw [e]; exact h1
  · rw [e]; exact h0
  · rw [e]; exact h6
  · rw [e]; exact h2
  · rw [e]; exact h3
  · rw [e]; exact h4
theorem jr_callO {x : MethodName} {owner : String} (As : List Value) {a : Nat} (hS : jS l G y My dy (.ref a :: As) Φc c0 Qy) (hhn : My.2.2.2.2.2 = none) (ir : Nat) {f : Bool} {k0 : Nat} {fs : List Value} (hir : Φ[ir]? = some (jA f a ((0, k0), fs))) {r : vw_C} (hr : jcl[k0]? = some r) {b0 : ByteArray} {m0 : Nat} {r0 : Option FieldType} (hinst0 : Cond.instanceMethod ⟨owner, x.name, x.desc⟩ ∈ lw_all) (hcode0 : Cond.code ⟨owner, x.name, x.desc⟩ b0 m0 r0 ∈ lw_all) (hlink : Cond.methodLink M.2.1 index x ∈ lw_all) (hsame : Cond.sameMethod x.cls owner x.name x.desc ∈ lw_all) (hinst : Cond.instanceMethod y ∈ lw_all) (hsel : Cond.selects r.1 x y ∈ lw_all) (hini : Cond.initialized y.cls ∈ lw_all) (hcode : jcode y My) (hpar : jpar ⟨owner, x.name, x.desc⟩ As.length) (hd : dy < d) (hL : My.2.2.1 ≤ 45) (hroom : (rest.map fun v => v.category).sum ≤ 8) (is pd : List Nat) (hnd : jnd pd is = true) (hpd : jpl Φ pd) (hpick : is.map (fun i => Φ[i]?) = (Φc ++ Φr).map some) (hb : c0 ≤ b) (hdg : decode M.1 pc = .ok (.invokevirtual index, 3))
    (kk : ∀ v Ψ, Qy (.returned v) Ψ → jT M l G d C Q X (Ψ ++ Φr) (pc + 3) lv (v.toList ++ rest) (b - c0)) (kx : ∀ q Ψ, Qy (.threw q) Ψ → jTx M l G d C Q X (Ψ ++ Φr) pc lv rest (b - c0) q) : jT M l G d C Q X Φ pc lv (As.reverse ++ .ref a :: rest) b := by
  obtain ⟨p, e, s, m, args, below, meth, c, F⟩ := X
  intro D H locs cells slots ls h1 h2 h3 h4 h5
  have hts := D.2.2.2.2.2.2.1
  have hK := D.2.2.2.2.2.2.2.1
  have hrv : ∃ cell : Cell, H[a]? = some cell ∧ cell.vm.isStatics = false ∧ s.vm.findClass r.1 = some cell.cls := by
    obtain ⟨-, cell, g1, g2, -, r', g3, g4, -⟩ := jat (s := s) hir h1
    cases Option.some.inj (g3.symm.trans hr)
    exact ⟨cell, g1, by rw [g2]; rfl, by rw [g4]; exact (hK.cl.1 k0 _ hr).2.1⟩
  have hsat : jsat G (Φc ++ (Φr ++ F)) H := by rw [← List.append_assoc]; exact jsat_pickP is pd hnd hpd hpick h1
  have hS' := hS D.2.2.2.2.2.2.2.2.2.1 (Φr ++ F)
  obtain ⟨cc, own, nL, ret, nm, hh⟩ := My
  dsimp only at hhn
  subst hhn
  exact jrun_fin (n3 := 3) D h2 h3 h4 h5 hb (jx_runU (As := As) (rest := rest) ⟨D.1, D.2.1, D.2.2.1, D.2.2.2.1, hts⟩ hS' (va_cwO As.length hts (lw_O hlink hsame hinst0 hsel hinst hini (lw_meth hcode)) rfl rfl rfl hcode0 hpar (jroom hd hL)) ⟨jPc_blind, hrv, fun U hU hW => ⟨rfl, jKn.warm hW hK, by rw [hU]; exact hsat⟩⟩ rfl rfl h5.1 rfl (lv_room hroom) hdg ⟨by show cells + c0 ≤ C; omega, by show slots + 4 * c0 ≤ 4 * C; omega⟩) kk kx
theorem jr_callA {x : MethodName} {owner : String} (As : List Value) {a : Nat} (hS : jS l G y My dy (.ref a :: As) Φc c0 Qy) (hhn : My.2.2.2.2.2 = none) (ir : Nat) {f : Bool} {k0 : Nat} {fs : List Value} (hir : Φ[ir]? = some (jA f a ((0, k0), fs))) {r : vw_C} (hr : jcl[k0]? = some r) (hdecl : (⟨owner, x.name, x.desc⟩ : MethodName) ∈ jde) (hlink : Cond.methodLink M.2.1 index x ∈ lw_all) (hsame : Cond.sameMethod x.cls owner x.name x.desc ∈ lw_all) (hinst : Cond.instanceMethod y ∈ lw_all) (hsel : Cond.selects r.1 x y ∈ lw_all) (hini : Cond.initialized y.cls ∈ lw_all) (hcode : jcode y My) (hpar : jpar ⟨owner, x.name, x.desc⟩ As.length) (hd : dy < d) (hL : My.2.2.1 ≤ 45) (hroom : (rest.map fun v => v.category).sum ≤ 8) (is pd : List Nat) (hnd : jnd pd is = true) (hpd : jpl Φ pd) (hpick : is.map (fun i => Φ[i]?) = (Φc ++ Φr).map some) (hb : c0 ≤ b) (hdg : decode M.1 pc = .ok (.invokevirtual index, 3))
    (kk : ∀ v Ψ, Qy (.returned v) Ψ → jT M l G d C Q X (Ψ ++ Φr) (pc + 3) lv (v.toList ++ rest) (b - c0)) (kx : ∀ q Ψ, Qy (.threw q) Ψ → jTx M l G d C Q X (Ψ ++ Φr) pc lv rest (b - c0) q) : jT M l G d C Q X Φ pc lv (As.reverse ++ .ref a :: rest) b := by
  obtain ⟨p, e, s, m, args, below, meth, c, F⟩ := X
  intro D H locs cells slots ls h1 h2 h3 h4 h5
  have hts := D.2.2.2.2.2.2.1
  have hK := D.2.2.2.2.2.2.2.1
  have hrv : ∃ cell : Cell, H[a]? = some cell ∧ cell.vm.isStatics = false ∧ s.vm.findClass r.1 = some cell.cls := by
    obtain ⟨-, cell, g1, g2, -, r', g3, g4, -⟩ := jat (s := s) hir h1
    cases Option.some.inj (g3.symm.trans hr)
    exact ⟨cell, g1, by rw [g2]; rfl, by rw [g4]; exact (hK.cl.1 k0 _ hr).2.1⟩
  have hsat : jsat G (Φc ++ (Φr ++ F)) H := by rw [← List.append_assoc]; exact jsat_pickP is pd hnd hpd hpick h1
  have hS' := hS D.2.2.2.2.2.2.2.2.2.1 (Φr ++ F)
  obtain ⟨cc, own, nL, ret, nm, hh⟩ := My
  dsimp only at hhn
  subst hhn
  exact jrun_fin (n3 := 3) D h2 h3 h4 h5 hb (jx_runU (As := As) (rest := rest) ⟨D.1, D.2.1, D.2.2.1, D.2.2.2.1, hts⟩ hS' (va_cwA As.length hts (lw_U hlink hsame hsel hinst hini (lw_meth hcode)) rfl rfl rfl (hK.de _ hdecl) hpar (jroom hd hL)) ⟨jPc_blind, hrv, fun U hU hW => ⟨rfl, jKn.warm hW hK, by rw [hU]; exact hsat⟩⟩ rfl rfl h5.1 rfl (lv_room hroom) hdg ⟨by show cells + c0 ≤ C; omega, by show slots + 4 * c0 ≤ 4 * C; omega⟩) kk kx
end JCSP
