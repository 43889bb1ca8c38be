/-! lists of frozen things: jPs P ps holds P of every x of ps -/
def jPs {α : Type} (P : α → jP) (ps : List α) : jP := jsl (ps.map P)
theorem jpers_Ps {α : Type} {P : α → jP} {ps : List α} (hp : ∀ x, jpers (P x)) : jpers (jPs P ps) := jpers_sl fun Q hQ => by
  obtain ⟨y, -, rfl⟩ := List.mem_map.mp hQ
  exact hp y
section JPS
variable {M : jM} {l : Launch} {G : jG} {d C : Nat} {Q : jQ} {X : jX} {Φ Φ' : List jP} {pc : Nat} {lv : List (Nat × Value)} {st : List Value} {b : Nat} {α : Type} {P : α → jP} {ps : List α}
theorem jPs_get {x : α} (hp : ∀ x, jpers (P x)) (hx : x ∈ ps) {h : jH} (hh : jPs P ps h) : ∃ h' : jH, (∀ a c, h' a c → h a c) ∧ P x h' ∧ ∀ a c, h' a c → c.1 = true := by
  obtain ⟨n, hn⟩ := List.getElem?_of_mem hx
  obtain ⟨h', h1, h2⟩ := jsl_split (A := ps.map P) (i := n) (by rw [List.getElem?_map, hn]; rfl) hh
  exact ⟨h', h1, h2, hp x _ h2⟩
/-- one of them -/
theorem jt_P (i : Nat) (x : α) (hp : ∀ x, jpers (P x)) (hi : Φ[i]? = some (jPs P ps)) (hx : x ∈ ps) (h : jT M l G d C Q X (P x :: Φ) pc lv st b) : jT M l G d C Q X Φ pc lv st b := by
  refine jt_dup i hi (jpers_Ps hp) ?_
  refine jt_conv (A := [jPs P ps]) (fun h0 hh => ?_) h
  obtain ⟨h', h1, h2, -⟩ := jPs_get hp hx (jsl_one.mp hh)
  exact ⟨h', h1, h2⟩
theorem jt_Ps0 (P : α → jP) (h : jT M l G d C Q X (jPs P [] :: Φ) pc lv st b) : jT M l G d C Q X Φ pc lv st b :=
  jt_conv (A := []) (fun h0 hh => (jsl_frozen (A := ([] : List α).map P) (fun i P hP => by simp at hP)).elim fun h' q => ⟨h', q⟩) h
theorem jt_Ps1 (qs : List α) (i : Nat) (hp : ∀ x, jpers (P x)) (hi : Φ[i]? = some (jPs P ps)) (hw : ∀ y ∈ qs, y ∈ ps) (h : jT M l G d C Q X (jPs P qs :: Φ) pc lv st b) : jT M l G d C Q X Φ pc lv st b := by
  refine jt_dup i hi (jpers_Ps hp) ?_
  refine jt_conv (A := [jPs P ps]) (fun h0 hh => ?_) h
  obtain ⟨h'', h1, h2⟩ := jsl_frozen (A := qs.map P) (h := h0) (fun k R hR => by
    rw [List.getElem?_map] at hR
    cases hk : qs[k]? with
    | none => rw [hk] at hR; cases hR
    | some y =>
      rw [hk] at hR
      cases hR
      exact jPs_get hp (hw y (List.mem_of_getElem? hk)) (jsl_one.mp hh))
  exact ⟨h'', h1, h2⟩
theorem jt_Ps2 {x : α} (qs : List α) (i j : Nat) (hp : ∀ x, jpers (P x)) (hi : Φ[i]? = some (jPs P ps)) (hj : Φ[j]? = some (P x)) (hw : ∀ y ∈ qs, y ∈ ps ∨ y = x) (h : jT M l G d C Q X (jPs P qs :: Φ) pc lv st b) : jT M l G d C Q X Φ pc lv st b := by
  refine jt_dup i hi (jpers_Ps hp) ?_
  refine jt_dup (P := P x) (j + 1) hj (hp x) ?_
  refine jt_conv (A := [P x, jPs P ps]) (fun h0 hh => ?_) h
  obtain ⟨ha, a1, a2⟩ := jsl_split (i := 0) (P := P x) rfl hh
  obtain ⟨hb, b1, b2⟩ := jsl_split (i := 1) (P := jPs P ps) rfl hh
  obtain ⟨h'', h1, h2⟩ := jsl_frozen (A := qs.map P) (h := h0) (fun k R hR => by
    rw [List.getElem?_map] at hR
    cases hk : qs[k]? with
    | none => rw [hk] at hR; cases hR
    | some y =>
      rw [hk] at hR
      cases hR
      rcases hw y (List.mem_of_getElem? hk) with hy | hy
      · obtain ⟨h', q1, q2, q3⟩ := jPs_get hp hy b2
        exact ⟨h', fun a c z => b1 a c (q1 a c z), q2, q3⟩
      · subst hy
        exact ⟨ha, a1, a2, hp y _ a2⟩)
  exact ⟨h'', h1, h2⟩
/-- two lists into one -/
theorem jt_Ps3 {qs : List α} (rs : List α) (i j : Nat) (hp : ∀ x, jpers (P x)) (hi : Φ[i]? = some (jPs P ps)) (hj : Φ[j]? = some (jPs P qs)) (hw : ∀ y ∈ rs, y ∈ ps ∨ y ∈ qs) (h : jT M l G d C Q X (jPs P rs :: Φ) pc lv st b) : jT M l G d C Q X Φ pc lv st b := by
  refine jt_dup i hi (jpers_Ps hp) ?_
  refine jt_dup (P := jPs P qs) (j + 1) hj (jpers_Ps hp) ?_
  refine jt_conv (A := [jPs P qs, jPs P ps]) (fun h0 hh => ?_) h
  obtain ⟨ha, a1, a2⟩ := jsl_split (i := 0) (P := jPs P qs) rfl hh
  obtain ⟨hb, b1, b2⟩ := jsl_split (i := 1) (P := jPs P ps) rfl hh
  obtain ⟨h'', h1, h2⟩ := jsl_frozen (A := rs.map P) (h := h0) (fun k R hR => by
    rw [List.getElem?_map] at hR
    cases hk : rs[k]? with
    | none => rw [hk] at hR; cases hR
    | some y =>
      rw [hk] at hR
      cases hR
      rcases hw y (List.mem_of_getElem? hk) with hy | hy
      · obtain ⟨h', q1, q2, q3⟩ := jPs_get hp hy b2
        exact ⟨h', fun a c z => b1 a c (q1 a c z), q2, q3⟩
      · obtain ⟨h', q1, q2, q3⟩ := jPs_get hp hy a2
        exact ⟨h', fun a c z => a1 a c (q1 a c z), q2, q3⟩)
  exact ⟨h'', h1, h2⟩
/-- from frozen things to others, thing by thing -/
theorem jt_PsM {β : Type} {P' : β → jP} {qs : List β} (i : Nat) (hp : ∀ x, jpers (P x)) (hi : Φ[i]? = some (jPs P ps)) (hw : ∀ y ∈ qs, ∃ x ∈ ps, ∀ h, P x h → ∃ h' : jH, (∀ a c, h' a c → h a c) ∧ P' y h') (h : jT M l G d C Q X (jPs P' qs :: Φ) pc lv st b) : jT M l G d C Q X Φ pc lv st b := by
  refine jt_dup i hi (jpers_Ps hp) ?_
  refine jt_conv (A := [jPs P ps]) (fun h0 hh => ?_) h
  obtain ⟨h'', h1, h2⟩ := jsl_frozen (A := qs.map P') (h := h0) (fun k R hR => by
    rw [List.getElem?_map] at hR
    cases hk : qs[k]? with
    | none => rw [hk] at hR; cases hR
    | some y =>
      rw [hk] at hR
      cases hR
      obtain ⟨x, hx, hf⟩ := hw y (List.mem_of_getElem? hk)
      obtain ⟨h', q1, q2, q3⟩ := jPs_get hp hx (jsl_one.mp hh)
      obtain ⟨h3, r1, r2⟩ := hf _ q2
      exact ⟨h3, fun a c z => q1 a c (r1 a c z), r2, fun a c z => q3 a c (r1 a c z)⟩)
  exact ⟨h'', h1, h2⟩
end JPS
/-- an Integer, a Character, by their numbers -/
def jInt (p : Nat × Int) : jP := jbun (fun _ : Unit => -2147483648 ≤ p.2 ∧ p.2 ≤ 2147483647) (fun _ => [im p.1 jkInt [.int (iI p.2)]])
theorem jpers_Int (p : Nat × Int) : jpers (jInt p) := jpers_bun fun v _ P hP => by rw [List.mem_singleton.mp hP]; exact jpers_A
def jChr (p : Nat × Nat) : jP := jbun (fun _ : Unit => p.2 < 65536) (fun _ => [im p.1 jkChar [.int (iI (p.2 : Int))]])
theorem jpers_Chr (p : Nat × Nat) : jpers (jChr p) := jpers_bun fun v _ P hP => by rw [List.mem_singleton.mp hP]; exact jpers_A
def jStr (p : Nat × List Nat) : jP := jLs p.1 p.2
theorem jpers_Str (p : Nat × List Nat) : jpers (jStr p) := jpers_jLs
theorem jInt_has {p : Nat × Int} : jhas (jInt p) p.1 jkInt := jhas_bun fun x _ => ⟨0, true, _, rfl⟩
theorem jChr_has {p : Nat × Nat} : jhas (jChr p) p.1 jkChar := jhas_bun fun x _ => ⟨0, true, _, rfl⟩
theorem jInt_rg {p : Nat × Int} : ∀ h, jInt p h → -2147483648 ≤ p.2 ∧ p.2 ≤ 2147483647 := fun h ⟨_, q, _⟩ => q
theorem jChr_rg {p : Nat × Nat} : ∀ h, jChr p h → p.2 < 65536 := fun h ⟨_, q, _⟩ => q
