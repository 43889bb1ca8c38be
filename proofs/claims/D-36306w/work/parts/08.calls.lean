/-! picks in which a frozen atom may stand twice; calls -/
/-- duplicates lie among pd -/
def jnd (pd : List Nat) : List Nat → Bool
  | [] => true
  | a :: l => (decide (a ∉ l) || decide (a ∈ pd)) && jnd pd l
theorem jnd_spec (pd : List Nat) : ∀ (l : List Nat), jnd pd l = true → ∀ (i j a : Nat), l[i]? = some a → l[j]? = some a → i = j ∨ a ∈ pd
  | [], _, i, j, a, h, _ => by simp at h
  | b :: l, hn, i, j, a, h1, h2 => by
    simp only [jnd, Bool.and_eq_true, Bool.or_eq_true, decide_eq_true_eq] at hn
    cases i with
    | zero =>
      cases j with
      | zero => exact Or.inl rfl
      | succ j =>
        rw [List.getElem?_cons_zero] at h1
        rw [List.getElem?_cons_succ] at h2
        cases h1
        rcases hn.1 with q | q
        · exact absurd (List.mem_of_getElem? h2) q
        · exact Or.inr q
    | succ i =>
      rw [List.getElem?_cons_succ] at h1
      cases j with
      | zero =>
        rw [List.getElem?_cons_zero] at h2
        cases h2
        rcases hn.1 with q | q
        · exact absurd (List.mem_of_getElem? h1) q
        · exact Or.inr q
      | succ j =>
        rw [List.getElem?_cons_succ] at h2
        rcases jnd_spec pd l hn.2 i j a h1 h2 with q | q
        · exact Or.inl (by rw [q])
        · exact Or.inr q
/-- the atoms at these places are frozen -/
def jpl (Φ : List jP) : List Nat → Prop
  | [] => True
  | i :: l => (∃ P, Φ[i]? = some P ∧ jpers P) ∧ jpl Φ l
theorem jpl_spec {Φ : List jP} : ∀ {l : List Nat}, jpl Φ l → ∀ i ∈ l, ∀ P, Φ[i]? = some P → jpers P
  | [], _, i, h, _, _ => by cases h
  | a :: l, hp, i, h, P, hP => by
    rcases List.mem_cons.mp h with e | e
    · subst e
      obtain ⟨P', h1, h2⟩ := hp.1
      cases h1.symm.trans hP
      exact h2
    · exact jpl_spec hp.2 i e P hP
theorem jsat_pickP {G : jG} {A A' B : List jP} {H : Heap} (is pd : List Nat) (hn : jnd pd is = true) (hpd : jpl A pd) (h : is.map (fun i => A[i]?) = A'.map some) (hs : jsat G (A ++ B) H) : jsat G (A' ++ B) H := by
  obtain ⟨hb, w, v, hw, hv, hx, hcw, hcv⟩ := jsat_app hs
  have hl : is.length = A'.length := by
    have := congrArg List.length h
    rwa [List.length_map, List.length_map] at this
  have at' : ∀ k P, A'[k]? = some P → A[is.getD k 0]? = some P := by
    intro k P e
    have hk : k < is.length := by rw [hl]; exact jlt e
    have h1 : (is.map (fun i => A[i]?))[k]? = some (some P) := by rw [h, List.getElem?_map, e]; rfl
    rw [List.getElem?_map, List.getElem?_eq_getElem hk] at h1
    have h2 : A[is[k]]? = some P := Option.some.inj h1
    have h3 : is.getD k 0 = is[k] := by rw [List.getD_eq_getElem?_getD, List.getElem?_eq_getElem hk]; rfl
    rw [h3]; exact h2
  have lt' : ∀ k, k < A'.length → is.getD k 0 < A.length := fun k hk => jlt (at' k _ (List.getElem?_eq_getElem hk))
  refine jsat_of hb (w := fun k => w (is.getD k 0)) ⟨fun k P e => hw.1 _ P (at' k P e), fun i j a c d hi hj hne h1 h2 => ?_⟩ hv (fun i j a c d hi hj h1 h2 => hx _ j a c d (lt' i hi) hj h1 h2) (fun i a c hi h1 => hcw _ a c (lt' i hi) h1) hcv
  by_cases q : is.getD i 0 = is.getD j 0
  · have e1 : is[i]? = some (is.getD i 0) := by rw [List.getD_eq_getElem?_getD, List.getElem?_eq_getElem (by omega)]; rfl
    have e2 : is[j]? = some (is.getD j 0) := by rw [List.getD_eq_getElem?_getD, List.getElem?_eq_getElem (by omega)]; rfl
    rcases jnd_spec pd is hn i j _ e1 (by rw [q]; exact e2) with z | z
    · exact absurd z hne
    · have hP := at' i _ (List.getElem?_eq_getElem hi)
      have hp := jpl_spec hpd _ z _ hP
      have hz := hw.1 _ _ hP
      dsimp only at h1 h2
      rw [← q] at h2
      exact Or.inl ⟨hp _ hz a c h1, hp _ hz a d h2⟩
  · exact hw.2 _ _ a c d (lt' i hi) (lt' j hj) q h1 h2
theorem jt_pickP {M : jM} {l : Launch} {G : jG} {d C : Nat} {Q : jQ} {X : jX} {Φ Φ' : List jP} {pc : Nat} {lv : List (Nat × Value)} {st : List Value} {b : Nat} (is pd : List Nat) (hn : jnd pd is = true) (hpd : jpl Φ pd) (hp : is.map (fun i => Φ[i]?) = Φ'.map some) (h : jT M l G d C Q X Φ' pc lv st b) : jT M l G d C Q X Φ pc lv st b := jt_sat (fun _ _ => jsat_pickP is pd hn hpd hp) h
theorem js_pickP {G : jG} {Φ Φ' : List jP} (is pd : List Nat) (hn : jnd pd is = true) (hpd : jpl Φ pd) (hp : is.map (fun i => Φ[i]?) = Φ'.map some) : ∀ F H, jsat G (Φ ++ F) H → jsat G (Φ' ++ F) H := fun _ _ => jsat_pickP is pd hn hpd hp
section JC
variable {M : jM} {l : Launch} {G : jG} {d C : Nat} {Q : jQ} {X : jX} {Φ Φ' : List jP} {pc : Nat} {lv lv' : List (Nat × Value)} {rest : List Value} {b : Nat}
theorem jPc_blind {av : List Value} {Ψ : List jP} : FrameBlind (va_Pc av (fun U => jKn G U ∧ jsat G Ψ U.heap)) := fun a U g mk q => ⟨q.1, jKn.calling q.2.1, q.2.2⟩
/-- a callee's number of arguments, and that it is no method handle -/
def jpar (y : MethodName) (n : Nat) : Prop := y.cls ≠ "java/lang/invoke/MethodHandle" ∧ y.cls ≠ "java/lang/invoke/VarHandle" ∧ (parseMethodDescriptor y.desc).map (fun d => d.parameters.length) = some n
/-- a callee's code stands in the tables -/
def jcode (y : MethodName) (M : jM) : Prop := match M.2.2.2.2.2 with
  | none => Cond.code y M.1 M.2.2.1 M.2.2.2.1 ∈ lw_all
  | some hh => Cond.codeWith y M.1 M.2.2.1 M.2.2.2.1 hh ∈ lw_all
/-- behind a call -/
theorem jrun_fin {p : Program} {e : Env} {s : State} {m : MethodId} {args : Array Value} {below : List Frame} {meth : Method} {c : Code} {F : List jP} {H : Heap} {locs : List Loc} {cells slots c0 : Nat} {ls : Array Slot} {Φr : List jP} {Qy : jQ} {st0 : List Value} {a9 : Array Value} {n3 : Nat} (D : jCx M l G p s m args meth c)
    (h2 : ∀ q ∈ locs, jN G ≤ q.base) (h3 : cells + b ≤ C) (h4 : slots + 4 * b ≤ 4 * C) (h5 : lv_has ls M.2.2.1 lv) (hb : c0 ≤ b)
    (hr : ∀ T : State, T.heap = H → Stand p l e (jR d C) s m args below meth c T locs cells slots →
      (∃ (v : Option Value) (st₀ t T' : State) (L : List Loc), st₀.heap = H ∧ Stand p l e (jR d C) s m args below meth c T' (locs ++ L) (cells + c0) (slots + 4 * c0) ∧ (∀ q ∈ L, jN G ≤ q.base) ∧ T'.heap = t.heap ∧ T'.vm = t.vm ∧ jQc G (Φr ++ F) Qy a9 st₀ (.returned v) t ∧
        Goes p e below T (F0 m pc ls st0) T' (F0 m (pc + n3) ls (v.toList ++ rest))) ∨
      (∃ (q : Addr) (st₀ t T' : State) (L : List Loc) (E : String) (ce : Cell), st₀.heap = H ∧ Stand p l e (jR d C) s m args below meth c T' (locs ++ L) (cells + c0) (slots + 4 * c0) ∧ (∀ z ∈ L, jN G ≤ z.base) ∧ T'.heap = t.heap ∧ T'.vm = t.vm ∧ jXc G (Φr ++ F) Qy E q st₀ t ∧ t.heap[q]? = some ce ∧ ce.vm = .none ∧ s.vm.findClass E = some ce.cls ∧
        Steps p.tables e below (T.setTop (F0 m pc ls st0)) ((T'.setTop (F0 m pc ls rest)).pushFrame (.throwing q))))
    (kk : ∀ v Ψ, Qy (.returned v) Ψ → jT M l G d C Q (p, e, s, m, args, below, meth, c, F) (Ψ ++ Φr) (pc + n3) lv (v.toList ++ rest) (b - c0))
    (kx : ∀ q Ψ, Qy (.threw q) Ψ → jTx M l G d C Q (p, e, s, m, args, below, meth, c, F) (Ψ ++ Φr) pc lv rest (b - c0) q) :
    W p l e (jR d C) s m args below meth c H locs cells slots (jMQ G C Q s args below F) (F0 m pc ls st0) := by
  intro T hT Y
  have hloc : ∀ L : List Loc, (∀ q ∈ L, jN G ≤ q.base) → ∀ q ∈ locs ++ L, jN G ≤ q.base := fun L hL q hq => (List.mem_append.mp hq).elim (h2 q) (hL q)
  rcases hr T hT Y with ⟨v, st₀, t, T', L, h0, X', hL, e1, e2, ⟨Ψ, hq, hs⟩, st⟩ | ⟨q, st₀, t, T', L, E, ce, h0, X', hL, e1, e2, ⟨Ψ, hq, hs⟩, hce, hcv, hcl, st⟩
  · obtain ⟨t2, a1, b1⟩ := kk v Ψ hq D T'.heap (locs ++ L) (cells + c0) (slots + 4 * c0) ls (by rw [e1, List.append_assoc]; exact hs) (hloc L hL) (by omega) (by omega) h5 T' rfl X'
    exact ⟨t2, st t2 a1, b1⟩
  · obtain ⟨t2, a1, b1⟩ := kx q Ψ hq D T'.heap (locs ++ L) (cells + c0) (slots + 4 * c0) ls (by rw [e1, List.append_assoc]; exact hs) (hloc L hL) (by omega) (by omega) h5 T' rfl X'
    exact ⟨t2, st.trans a1, b1⟩
variable {y : MethodName} {My : jM} {dy c0 : Nat} {Φc Φr : List jP} {Qy : jQ} {index : Nat}
theorem jroom {dy d nL C c0 : Nat} (hd : dy < d) (hL : nL ≤ 45) : (jR dy c0).frames + 1 ≤ (jR d C).frames ∧ 8 + (nL + 11) + (jR dy c0).locals ≤ (jR d C).locals := by
  show dy + 1 ≤ d ∧ 8 + (nL + 11) + 64 * dy ≤ 64 * d
  omega
theorem jr_callV (As : List Value) {a : Nat} (hS : jS l G y My dy (.ref a :: As) Φc c0 Qy) (ir : Nat) {f : Bool} {k0 : Nat} {fs : List Value} (hir : Φ[ir]? = some (jA f a ((0, k0), fs))) {r : vw_C} (hr : jcl[k0]? = some r) (hcls : y.cls = r.1) (hlink : Cond.methodLink M.2.1 index y ∈ lw_all) (hinst : Cond.instanceMethod y ∈ lw_all) (hsel : Cond.selects r.1 y y ∈ lw_all) (hini : Cond.initialized r.1 ∈ lw_all) (hcode : jcode y My) (hpar : jpar y As.length) (hd : dy < d) (hL : My.2.2.1 ≤ 45) (hroom : (rest.map fun v => v.category).sum ≤ 8) (is pd : List Nat) (hnd : jnd pd is = true) (hpd : jpl Φ pd) (hpick : is.map (fun i => Φ[i]?) = (Φc ++ Φr).map some) (hb : c0 ≤ b) (hdg : decode M.1 pc = .ok (.invokevirtual index, 3))
    (kk : ∀ v Ψ, Qy (.returned v) Ψ → jT M l G d C Q X (Ψ ++ Φr) (pc + 3) lv (v.toList ++ rest) (b - c0)) (kx : ∀ q Ψ, Qy (.threw q) Ψ → jTx M l G d C Q X (Ψ ++ Φr) pc lv rest (b - c0) q) : jT M l G d C Q X Φ pc lv (As.reverse ++ .ref a :: rest) b := by
  obtain ⟨p, e, s, m, args, below, meth, c, F⟩ := X
  intro D H locs cells slots ls h1 h2 h3 h4 h5
  have hts := D.2.2.2.2.2.2.1
  have hK := D.2.2.2.2.2.2.2.1
  have hrv : ∃ cell : Cell, H[a]? = some cell ∧ cell.vm.isStatics = false ∧ s.vm.findClass r.1 = some cell.cls := by
    obtain ⟨-, cell, g1, g2, -, r', g3, g4, -⟩ := jat (s := s) hir h1
    cases Option.some.inj (g3.symm.trans hr)
    exact ⟨cell, g1, by rw [g2]; rfl, by rw [g4]; exact (hK.cl.1 k0 _ hr).2.1⟩
  have hsat : jsat G (Φc ++ (Φr ++ F)) H := by rw [← List.append_assoc]; exact jsat_pickP is pd hnd hpd hpick h1
  have hS' := hS D.2.2.2.2.2.2.2.2.2.1 (Φr ++ F)
  obtain ⟨cc, own, nL, ret, nm, hh⟩ := My
  cases hh with
  | none =>
    exact jrun_fin (n3 := 3) D h2 h3 h4 h5 hb (jx_runV (As := As) (rest := rest) ⟨D.1, D.2.1, D.2.2.1, D.2.2.2.1, hts⟩ hS' (cwV As.length hts (lw_V hlink hinst hsel hini hcode) rfl rfl rfl ⟨hcls, hpar⟩ (jroom hd hL)) ⟨jPc_blind, hrv, fun U hU hW => ⟨rfl, jKn.warm hW hK, by rw [hU]; exact hsat⟩⟩ rfl rfl h5.1 rfl (lv_room hroom) hdg ⟨by show cells + c0 ≤ C; omega, by show slots + 4 * c0 ≤ 4 * C; omega⟩) kk kx
  | some hh =>
    exact jrun_fin (n3 := 3) D h2 h3 h4 h5 hb (jx_runVX (As := As) (rest := rest) ⟨D.1, D.2.1, D.2.2.1, D.2.2.2.1, hts⟩ hS' (jx_cwVW As.length hts (lw_VW hlink hinst hsel hini hcode) rfl rfl rfl ⟨hcls, hpar⟩ (jroom hd hL)) ⟨jPc_blind, hrv, fun U hU hW => ⟨rfl, jKn.warm hW hK, by rw [hU]; exact hsat⟩⟩ rfl rfl h5.1 rfl (lv_room hroom) hdg ⟨by show cells + c0 ≤ C; omega, by show slots + 4 * c0 ≤ 4 * C; omega⟩) kk kx
theorem jr_callS (As : List Value) (hS : jS l G y My dy As Φc c0 Qy) (hlink : Cond.methodLink M.2.1 index y ∈ lw_all) (hstat : Cond.static y ∈ lw_all) (hini : Cond.initialized y.cls ∈ lw_all) (hcode : jcode y My) (hpar : jpar y As.length) (hd : dy < d) (hL : My.2.2.1 ≤ 45) (hroom : (rest.map fun v => v.category).sum ≤ 8) (is pd : List Nat) (hnd : jnd pd is = true) (hpd : jpl Φ pd) (hpick : is.map (fun i => Φ[i]?) = (Φc ++ Φr).map some) (hb : c0 ≤ b) (hdg : decode M.1 pc = .ok (.invokestatic index, 3))
    (kk : ∀ v Ψ, Qy (.returned v) Ψ → jT M l G d C Q X (Ψ ++ Φr) (pc + 3) lv (v.toList ++ rest) (b - c0)) (kx : ∀ q Ψ, Qy (.threw q) Ψ → jTx M l G d C Q X (Ψ ++ Φr) pc lv rest (b - c0) q) : jT M l G d C Q X Φ pc lv (As.reverse ++ rest) b := by
  obtain ⟨p, e, s, m, args, below, meth, c, F⟩ := X
  intro D H locs cells slots ls h1 h2 h3 h4 h5
  have hts := D.2.2.2.2.2.2.1
  have hK := D.2.2.2.2.2.2.2.1
  have hsat : jsat G (Φc ++ (Φr ++ F)) H := by rw [← List.append_assoc]; exact jsat_pickP is pd hnd hpd hpick h1
  have hS' := hS D.2.2.2.2.2.2.2.2.2.1 (Φr ++ F)
  obtain ⟨cc, own, nL, ret, nm, hh⟩ := My
  cases hh with
  | none =>
    exact jrun_fin (n3 := 3) D h2 h3 h4 h5 hb (jx_runS (As := As) (rest := rest) ⟨D.1, D.2.1, D.2.2.1, D.2.2.2.1, hts⟩ hS' (va_cwS As.length hts (lw_S hlink hstat hini hcode) rfl rfl rfl hpar (jroom hd hL)) ⟨jPc_blind, fun U hU hW => ⟨rfl, jKn.warm hW hK, by rw [hU]; exact hsat⟩⟩ rfl rfl h5.1 rfl (lv_room hroom) hdg ⟨by show cells + c0 ≤ C; omega, by show slots + 4 * c0 ≤ 4 * C; omega⟩) kk kx
  | some hh =>
    exact jrun_fin (n3 := 3) D h2 h3 h4 h5 hb (jx_runSX (As := As) (rest := rest) ⟨D.1, D.2.1, D.2.2.1, D.2.2.2.1, hts⟩ hS' (jx_cwSW As.length hts (lw_SW hlink hstat hini hcode) rfl rfl rfl hpar (jroom hd hL)) ⟨jPc_blind, fun U hU hW => ⟨rfl, jKn.warm hW hK, by rw [hU]; exact hsat⟩⟩ rfl rfl h5.1 rfl (lv_room hroom) hdg ⟨by show cells + c0 ≤ C; omega, by show slots + 4 * c0 ≤ 4 * C; omega⟩) kk kx
theorem jr_callI (As : List Value) {a : Nat} (hS : jS l G y My dy (.ref a :: As) Φc c0 Qy) (hy : y.name = "<init>") (hret : My.2.2.2.1 = none) (hhn : My.2.2.2.2.2 = none) (hlink : Cond.methodLink M.2.1 index y ∈ lw_all) (hinst : Cond.instanceMethod y ∈ lw_all) (hini : Cond.initialized y.cls ∈ lw_all) (hcode : jcode y My) (hpar : jpar y As.length) (hd : dy < d) (hL : My.2.2.1 ≤ 45) (hroom : (rest.map fun v => v.category).sum ≤ 8) (is pd : List Nat) (hnd : jnd pd is = true) (hpd : jpl Φ pd) (hpick : is.map (fun i => Φ[i]?) = (Φc ++ Φr).map some) (hb : c0 ≤ b) (hdg : decode M.1 pc = .ok (.invokespecial index, 3))
    (kk : ∀ v Ψ, Qy (.returned v) Ψ → jT M l G d C Q X (Ψ ++ Φr) (pc + 3) lv (v.toList ++ rest) (b - c0)) (kx : ∀ q Ψ, Qy (.threw q) Ψ → jTx M l G d C Q X (Ψ ++ Φr) pc lv rest (b - c0) q) : jT M l G d C Q X Φ pc lv (As.reverse ++ .ref a :: rest) b := by
  obtain ⟨p, e, s, m, args, below, meth, c, F⟩ := X
  intro D H locs cells slots ls h1 h2 h3 h4 h5
  have hts := D.2.2.2.2.2.2.1
  have hK := D.2.2.2.2.2.2.2.1
  have hsat : jsat G (Φc ++ (Φr ++ F)) H := by rw [← List.append_assoc]; exact jsat_pickP is pd hnd hpd hpick h1
  have hS' := hS D.2.2.2.2.2.2.2.2.2.1 (Φr ++ F)
  obtain ⟨cc, own, nL, ret, nm, hh⟩ := My
  dsimp only at hret hhn
  subst hret
  subst hhn
  exact jrun_fin (n3 := 3) D h2 h3 h4 h5 hb (jx_runI (As := As) (rest := rest) ⟨D.1, D.2.1, D.2.2.1, D.2.2.2.1, hts⟩ hS' (cwI As.length hts (lw_meth hcode) rfl rfl rfl (hts _ hini) (hts _ hlink) (hts _ hinst) hy hpar (jroom hd hL)) ⟨jPc_blind, fun U hU hW => ⟨rfl, jKn.warm hW hK, by rw [hU]; exact hsat⟩⟩ rfl rfl h5.1 rfl (lv_room hroom) hdg ⟨by show cells + c0 ≤ C; omega, by show slots + 4 * c0 ≤ 4 * C; omega⟩) kk kx
theorem jr_callVN (As : List Value) {a : Nat} (hS : jS l G y My dy (.ref a :: As) Φc c0 Qy) (hhn : My.2.2.2.2.2 = none) (ir : Nat) {f : Bool} {k0 : Nat} {fs : List Value} (hir : Φ[ir]? = some (jA f a ((0, k0), fs))) {r : vw_C} (hr : jcl[k0]? = some r) {host : String} (hlink : (M.2.1, index, y, host) ∈ jmn) (hinst : Cond.instanceMethod y ∈ lw_all) (hsel : Cond.selects r.1 y y ∈ lw_all) (hini : Cond.initialized y.cls ∈ lw_all) (hcode : jcode y My) (hpar : jpar y As.length) (hd : dy < d) (hL : My.2.2.1 ≤ 45) (hroom : (rest.map fun v => v.category).sum ≤ 8) (is pd : List Nat) (hnd : jnd pd is = true) (hpd : jpl Φ pd) (hpick : is.map (fun i => Φ[i]?) = (Φc ++ Φr).map some) (hb : c0 ≤ b) (hdg : decode M.1 pc = .ok (.invokevirtual index, 3))
    (kk : ∀ v Ψ, Qy (.returned v) Ψ → jT M l G d C Q X (Ψ ++ Φr) (pc + 3) lv (v.toList ++ rest) (b - c0)) (kx : ∀ q Ψ, Qy (.threw q) Ψ → jTx M l G d C Q X (Ψ ++ Φr) pc lv rest (b - c0) q) : jT M l G d C Q X Φ pc lv (As.reverse ++ .ref a :: rest) b := by
  obtain ⟨p, e, s, m, args, below, meth, c, F⟩ := X
  intro D H locs cells slots ls h1 h2 h3 h4 h5
  have hts := D.2.2.2.2.2.2.1
  have hK := D.2.2.2.2.2.2.2.1
  have hrv : ∃ cell : Cell, H[a]? = some cell ∧ cell.vm.isStatics = false ∧ s.vm.findClass r.1 = some cell.cls := by
    obtain ⟨-, cell, g1, g2, -, r', g3, g4, -⟩ := jat (s := s) hir h1
    cases Option.some.inj (g3.symm.trans hr)
    exact ⟨cell, g1, by rw [g2]; rfl, by rw [g4]; exact (hK.cl.1 k0 _ hr).2.1⟩
  have hsat : jsat G (Φc ++ (Φr ++ F)) H := by rw [← List.append_assoc]; exact jsat_pickP is pd hnd hpd hpick h1
  have hS' := hS D.2.2.2.2.2.2.2.2.2.1 (Φr ++ F)
  obtain ⟨cc, own, nL, ret, nm, hh⟩ := My
  dsimp only at hhn
  subst hhn
  exact jrun_fin (n3 := 3) D h2 h3 h4 h5 hb (jx_runVN (As := As) (rest := rest) ⟨D.1, D.2.1, D.2.2.1, D.2.2.2.1, hts⟩ hS' ⟨va_cnB As.length hts (lw_meth hcode) rfl rfl rfl (hK.mn _ hlink) (hts _ hini) hpar (jroom hd hL), hts _ hinst, hts _ hsel⟩ ⟨jPc_blind, hrv, fun U hU hW => ⟨rfl, jKn.warm hW hK, by rw [hU]; exact hsat⟩⟩ rfl rfl h5.1 rfl (lv_room hroom) hdg ⟨by show cells + c0 ≤ C; omega, by show slots + 4 * c0 ≤ 4 * C; omega⟩) kk kx
theorem jr_callSN (As : List Value) (hS : jS l G y My dy As Φc c0 Qy) (hhn : My.2.2.2.2.2 = none) {host : String} (hlink : (M.2.1, index, y, host) ∈ jmn) (hstat : Cond.static y ∈ lw_all) (hini : Cond.initialized y.cls ∈ lw_all) (hcode : jcode y My) (hpar : jpar y As.length) (hd : dy < d) (hL : My.2.2.1 ≤ 45) (hroom : (rest.map fun v => v.category).sum ≤ 8) (is pd : List Nat) (hnd : jnd pd is = true) (hpd : jpl Φ pd) (hpick : is.map (fun i => Φ[i]?) = (Φc ++ Φr).map some) (hb : c0 ≤ b) (hdg : decode M.1 pc = .ok (.invokestatic index, 3))
    (kk : ∀ v Ψ, Qy (.returned v) Ψ → jT M l G d C Q X (Ψ ++ Φr) (pc + 3) lv (v.toList ++ rest) (b - c0)) (kx : ∀ q Ψ, Qy (.threw q) Ψ → jTx M l G d C Q X (Ψ ++ Φr) pc lv rest (b - c0) q) : jT M l G d C Q X Φ pc lv (As.reverse ++ rest) b := by
  obtain ⟨p, e, s, m, args, below, meth, c, F⟩ := X
  intro D H locs cells slots ls h1 h2 h3 h4 h5
  have hts := D.2.2.2.2.2.2.1
  have hK := D.2.2.2.2.2.2.2.1
  have hsat : jsat G (Φc ++ (Φr ++ F)) H := by rw [← List.append_assoc]; exact jsat_pickP is pd hnd hpd hpick h1
  have hS' := hS D.2.2.2.2.2.2.2.2.2.1 (Φr ++ F)
  obtain ⟨cc, own, nL, ret, nm, hh⟩ := My
  dsimp only at hhn
  subst hhn
  exact jrun_fin (n3 := 3) D h2 h3 h4 h5 hb (jx_runSN (As := As) (rest := rest) ⟨D.1, D.2.1, D.2.2.1, D.2.2.2.1, hts⟩ hS' ⟨va_cnB As.length hts (lw_meth hcode) rfl rfl rfl (hK.mn _ hlink) (hts _ hini) hpar (jroom hd hL), hts _ hstat, trivial⟩ ⟨jPc_blind, fun U hU hW => ⟨rfl, jKn.warm hW hK, by rw [hU]; exact hsat⟩⟩ rfl rfl h5.1 rfl (lv_room hroom) hdg ⟨by show cells + c0 ≤ C; omega, by show slots + 4 * c0 ≤ 4 * C; omega⟩) kk kx
theorem jr_callIN (As : List Value) {a : Nat} (hS : jS l G y My dy (.ref a :: As) Φc c0 Qy) (hy : y.name = "<init>") (hret : My.2.2.2.1 = none) (hhn : My.2.2.2.2.2 = none) {host : String} (hlink : (M.2.1, index, y, host) ∈ jmn) (hinst : Cond.instanceMethod y ∈ lw_all) (hini : Cond.initialized y.cls ∈ lw_all) (hcode : jcode y My) (hpar : jpar y As.length) (hd : dy < d) (hL : My.2.2.1 ≤ 45) (hroom : (rest.map fun v => v.category).sum ≤ 8) (is pd : List Nat) (hnd : jnd pd is = true) (hpd : jpl Φ pd) (hpick : is.map (fun i => Φ[i]?) = (Φc ++ Φr).map some) (hb : c0 ≤ b) (hdg : decode M.1 pc = .ok (.invokespecial index, 3))
    (kk : ∀ v Ψ, Qy (.returned v) Ψ → jT M l G d C Q X (Ψ ++ Φr) (pc + 3) lv (v.toList ++ rest) (b - c0)) (kx : ∀ q Ψ, Qy (.threw q) Ψ → jTx M l G d C Q X (Ψ ++ Φr) pc lv rest (b - c0) q) : jT M l G d C Q X Φ pc lv (As.reverse ++ .ref a :: rest) b := by
  obtain ⟨p, e, s, m, args, below, meth, c, F⟩ := X
  intro D H locs cells slots ls h1 h2 h3 h4 h5
  have hts := D.2.2.2.2.2.2.1
  have hK := D.2.2.2.2.2.2.2.1
  have hsat : jsat G (Φc ++ (Φr ++ F)) H := by rw [← List.append_assoc]; exact jsat_pickP is pd hnd hpd hpick h1
  have hS' := hS D.2.2.2.2.2.2.2.2.2.1 (Φr ++ F)
  obtain ⟨cc, own, nL, ret, nm, hh⟩ := My
  dsimp only at hret hhn
  subst hret
  subst hhn
  exact jrun_fin (n3 := 3) D h2 h3 h4 h5 hb (jx_runIN (As := As) (rest := rest) ⟨D.1, D.2.1, D.2.2.1, D.2.2.2.1, hts⟩ hS' ⟨va_cnB As.length hts (lw_meth hcode) rfl rfl rfl (hK.mn _ hlink) (hts _ hini) hpar (jroom hd hL), hy, hts _ hinst⟩ ⟨jPc_blind, fun U hU hW => ⟨rfl, jKn.warm hW hK, by rw [hU]; exact hsat⟩⟩ rfl rfl h5.1 rfl (lv_room hroom) hdg ⟨by show cells + c0 ≤ C; omega, by show slots + 4 * c0 ≤ 4 * C; omega⟩) kk kx
theorem lw_F {own : String} {idx : Nat} {C : String} {x y : MethodName} {ws : List Cond} (h1 : Cond.methodLink own idx x ∈ lw_all) (h2 : Cond.selects C x y ∈ lw_all) (h3 : Cond.instanceMethod y ∈ lw_all) (h4 : Cond.initialized y.cls ∈ lw_all) (h5 : GoodIn lw_all ws) : GoodIn lw_all (va_wsF own idx C x y ws) := by
  refine lw_app ?_ h5
  intro w hw
  simp only [List.mem_cons, List.not_mem_nil, or_false] at hw
  rcases hw with e | e | e | e
  · rw [e]; exact h1
  · rw [e]; exact h2
  · rw [e]; exact h3
  · rw [e]; exact h4
/-- through an interface: x is named there, y runs -/
theorem jr_callF {x : MethodName} {count : Nat} (As : List Value) {a : Nat} (hS : jS l G y My dy (.ref a :: As) Φc c0 Qy) (ir : Nat) {f : Bool} {k0 : Nat} {fs : List Value} (hir : Φ[ir]? = some (jA f a ((0, k0), fs))) {r : vw_C} (hr : jcl[k0]? = some r) (hF : (r.1, x, y) ∈ jfw) (hlink : Cond.methodLink M.2.1 index x ∈ lw_all) (hinst : Cond.instanceMethod y ∈ lw_all) (hsel : Cond.selects r.1 x y ∈ lw_all) (hini : Cond.initialized y.cls ∈ lw_all) (hcode : jcode y My) (hpar : jpar x As.length) (hd : dy < d) (hL : My.2.2.1 ≤ 45) (hroom : (rest.map fun v => v.category).sum ≤ 8) (is pd : List Nat) (hnd : jnd pd is = true) (hpd : jpl Φ pd) (hpick : is.map (fun i => Φ[i]?) = (Φc ++ Φr).map some) (hb : c0 ≤ b) (hdg : decode M.1 pc = .ok (.invokeinterface index count, 5))
    (kk : ∀ v Ψ, Qy (.returned v) Ψ → jT M l G d C Q X (Ψ ++ Φr) (pc + 5) lv (v.toList ++ rest) (b - c0)) (kx : ∀ q Ψ, Qy (.threw q) Ψ → jTx M l G d C Q X (Ψ ++ Φr) pc lv rest (b - c0) q) : jT M l G d C Q X Φ pc lv (As.reverse ++ .ref a :: rest) b := by
  obtain ⟨p, e, s, m, args, below, meth, c, F⟩ := X
  intro D H locs cells slots ls h1 h2 h3 h4 h5
  have hts := D.2.2.2.2.2.2.1
  have hK := D.2.2.2.2.2.2.2.1
  have hrv : ∃ cell : Cell, H[a]? = some cell ∧ cell.vm.isStatics = false ∧ s.vm.findClass r.1 = some cell.cls := by
    obtain ⟨-, cell, g1, g2, -, r', g3, g4, -⟩ := jat (s := s) hir h1
    cases Option.some.inj (g3.symm.trans hr)
    exact ⟨cell, g1, by rw [g2]; rfl, by rw [g4]; exact (hK.cl.1 k0 _ hr).2.1⟩
  have hat : ClassAt s r.1 (jCid G k0) := (hK.cl.1 k0 r hr).2
  have hsat : jsat G (Φc ++ (Φr ++ F)) H := by rw [← List.append_assoc]; exact jsat_pickP is pd hnd hpd hpick h1
  have hS' := hS D.2.2.2.2.2.2.2.2.2.1 (Φr ++ F)
  obtain ⟨cc, own, nL, ret, nm, hh⟩ := My
  cases hh with
  | none =>
    exact jrun_fin (n3 := 5) D h2 h3 h4 h5 hb (jx_runF (As := As) (rest := rest) hat ⟨D.1, D.2.1, D.2.2.1, D.2.2.2.1, hts⟩ hS' (va_cwF As.length hts (lw_F hlink hsel hinst hini (lw_meth hcode)) rfl rfl rfl (hK.fw _ hF) hpar (jroom hd hL)) ⟨jPc_blind, hrv, fun U hU hW => ⟨rfl, jKn.warm hW hK, by rw [hU]; exact hsat⟩⟩ rfl rfl h5.1 rfl (lv_room hroom) hdg ⟨by show cells + c0 ≤ C; omega, by show slots + 4 * c0 ≤ 4 * C; omega⟩) kk kx
  | some hh =>
    exact jrun_fin (n3 := 5) D h2 h3 h4 h5 hb (jx_runFW (As := As) (rest := rest) hat ⟨D.1, D.2.1, D.2.2.1, D.2.2.2.1, hts⟩ hS' (va_cwFW As.length hts (lw_F hlink hsel hinst hini (lw_methW hcode)) rfl rfl rfl (hK.fw _ hF) hpar (jroom hd hL)) ⟨jPc_blind, hrv, fun U hU hW => ⟨rfl, jKn.warm hW hK, by rw [hU]; exact hsat⟩⟩ rfl rfl h5.1 rfl (lv_room hroom) hdg ⟨by show cells + c0 ≤ C; omega, by show slots + 4 * c0 ≤ 4 * C; omega⟩) kk kx
theorem lw_U {own : String} {idx : Nat} {C owner : String} {x y : MethodName} {ws : List Cond} (h1 : Cond.methodLink own idx x ∈ lw_all) (h0 : Cond.sameMethod x.cls owner x.name x.desc ∈ lw_all) (h2 : Cond.selects C x y ∈ lw_all) (h3 : Cond.instanceMethod y ∈ lw_all) (h4 : Cond.initialized y.cls ∈ lw_all) (h5 : GoodIn lw_all ws) : GoodIn lw_all (va_wsU own idx C owner x y ws) := by
  refine lw_app ?_ h5
  intro w hw
  simp only [List.mem_cons, List.not_mem_nil, or_false] at hw
  rcases hw with e | e | e | e | e
  · rw [e]; exact h1
  · rw [e]; exact h0
  · rw [e]; exact h2
  · rw [e]; exact h3
  · rw [e]; exact h4
/-- inherited: named in x's class, it is owner's y that runs -/
theorem jr_callU {x : MethodName} {owner : String} (As : List Value) {a : Nat} (hS : jS l G y My dy (.ref a :: As) Φc c0 Qy) (hhn : My.2.2.2.2.2 = none) (ir : Nat) {f : Bool} {k0 : Nat} {fs : List Value} (hir : Φ[ir]? = some (jA f a ((0, k0), fs))) {r : vw_C} (hr : jcl[k0]? = some r) (hyx : y = ⟨owner, x.name, x.desc⟩) (hlink : Cond.methodLink M.2.1 index x ∈ lw_all) (hsame : Cond.sameMethod x.cls owner x.name x.desc ∈ lw_all) (hinst : Cond.instanceMethod y ∈ lw_all) (hsel : Cond.selects r.1 x y ∈ lw_all) (hini : Cond.initialized y.cls ∈ lw_all) (hcode : jcode y My) (hpar : jpar ⟨owner, x.name, x.desc⟩ As.length) (hd : dy < d) (hL : My.2.2.1 ≤ 45) (hroom : (rest.map fun v => v.category).sum ≤ 8) (is pd : List Nat) (hnd : jnd pd is = true) (hpd : jpl Φ pd) (hpick : is.map (fun i => Φ[i]?) = (Φc ++ Φr).map some) (hb : c0 ≤ b) (hdg : decode M.1 pc = .ok (.invokevirtual index, 3))
    (kk : ∀ v Ψ, Qy (.returned v) Ψ → jT M l G d C Q X (Ψ ++ Φr) (pc + 3) lv (v.toList ++ rest) (b - c0)) (kx : ∀ q Ψ, Qy (.threw q) Ψ → jTx M l G d C Q X (Ψ ++ Φr) pc lv rest (b - c0) q) : jT M l G d C Q X Φ pc lv (As.reverse ++ .ref a :: rest) b := by
  obtain ⟨p, e, s, m, args, below, meth, c, F⟩ := X
  intro D H locs cells slots ls h1 h2 h3 h4 h5
  have hts := D.2.2.2.2.2.2.1
  have hK := D.2.2.2.2.2.2.2.1
  have hrv : ∃ cell : Cell, H[a]? = some cell ∧ cell.vm.isStatics = false ∧ s.vm.findClass r.1 = some cell.cls := by
    obtain ⟨-, cell, g1, g2, -, r', g3, g4, -⟩ := jat (s := s) hir h1
    cases Option.some.inj (g3.symm.trans hr)
    exact ⟨cell, g1, by rw [g2]; rfl, by rw [g4]; exact (hK.cl.1 k0 _ hr).2.1⟩
  have hsat : jsat G (Φc ++ (Φr ++ F)) H := by rw [← List.append_assoc]; exact jsat_pickP is pd hnd hpd hpick h1
  have hS' := hS D.2.2.2.2.2.2.2.2.2.1 (Φr ++ F)
  obtain ⟨cc, own, nL, ret, nm, hh⟩ := My
  dsimp only at hhn
  subst hhn
  exact jrun_fin (n3 := 3) D h2 h3 h4 h5 hb (jx_runU (As := As) (rest := rest) ⟨D.1, D.2.1, D.2.2.1, D.2.2.2.1, hts⟩ hS' (va_cwU As.length hts (lw_U hlink hsame hsel hinst hini (lw_meth hcode)) rfl rfl rfl hyx hpar (jroom hd hL)) ⟨jPc_blind, hrv, fun U hU hW => ⟨rfl, jKn.warm hW hK, by rw [hU]; exact hsat⟩⟩ rfl rfl h5.1 rfl (lv_room hroom) hdg ⟨by show cells + c0 ≤ C; omega, by show slots + 4 * c0 ≤ 4 * C; omega⟩) kk kx
/-- Object.<init> -/
theorem jr_objInit {a : Nat} (hlink : Cond.methodLink M.2.1 index Lib.objectInit ∈ lw_all) (hinst : Cond.instanceMethod Lib.objectInit ∈ lw_all) (hcode : Cond.code Lib.objectInit ⟨#[0xb1]⟩ 1 none ∈ lw_all) (hd : 1 ≤ d) (hroom : (rest.map fun v => v.category).sum ≤ 8) (hdg : decode M.1 pc = .ok (.invokespecial index, 3))
    (h : jT M l G d C Q X Φ (pc + 3) lv rest b) : jT M l G d C Q X Φ pc lv (.ref a :: rest) b := by
  obtain ⟨p, e, s, m, args, below, meth, c, F⟩ := X
  intro D H locs cells slots ls h1 h2 h3 h4 h5
  have hts := D.2.2.2.2.2.2.1
  exact W.objInit D.1 D.2.1 D.2.2.2.1 (hts _ hlink) (hts _ hinst) (hts _ hcode) rfl (by rw [D.2.2.1]; exact h5.1) rfl hdg hd (by show 2 * 0 + _ + 12 ≤ 64 * d; omega) (h D H locs cells slots ls h1 h2 h3 h4 h5)
theorem jr_athrow {q : Addr} (hdg : decode M.1 pc = .ok (.athrow, 1)) (k : jTx M l G d C Q X Φ pc lv rest b q) : jT M l G d C Q X Φ pc lv (.ref q :: rest) b := by
  obtain ⟨p, e, s, m, args, below, meth, c, F⟩ := X
  intro D H locs cells slots ls h1 h2 h3 h4 h5
  exact jx_athrow D.1 D.2.1 hdg (k D H locs cells slots ls h1 h2 h3 h4 h5)
end JC
