/-! J: contracts over lists of atoms. The heap's facts: an address, whether it is frozen, an object or array -/
/-- what lies at an address: (0, class) its fields (the first ones at least), (1, array kind) its elements, (2, array kind) the class alone -/
abbrev jO : Type := (Nat × Nat) × List Value
abbrev jH : Type := Nat → Bool × jO → Prop
abbrev jP : Type := jH → Prop
/-- class ids, their slots; array class ids; the old heap; monitors; statics' values; constants' addresses -/
abbrev jG : Type := (Nat → ClassId) × (Nat → Nat → Nat) × (Nat → ClassId) × Heap × (Nat → Monitor) × (Nat → Value) × (Nat → Nat)
def jCid (G : jG) : Nat → ClassId := G.1
def jSl (G : jG) : Nat → Nat → Nat := G.2.1
def jAid (G : jG) : Nat → ClassId := G.2.2.1
def jH0 (G : jG) : Heap := G.2.2.2.1
def jMon (G : jG) : Nat → Monitor := G.2.2.2.2.1
def jSV (G : jG) : Nat → Value := G.2.2.2.2.2.1
def jKA (G : jG) : Nat → Nat := G.2.2.2.2.2.2
def jN (G : jG) : Nat := (jH0 G).size
/-- the classes whose objects' monitors are told -/
def jsyb (k : Nat) : Bool := k == jSy || k == 35 || k == 36
def jmt (G : jG) (a : Nat) (o : jO) (c : Cell) : Prop := match o.1.1 with
  | 0 => c.vm = .none ∧ (jsyb o.1.2 = true → o.2 ≠ [] → jN G ≤ a → c.monitor = jMon G a) ∧ ∃ r : vw_C, jcl[o.1.2]? = some r ∧ c.cls = jCid G o.1.2 ∧ ∀ k v, o.2[k]? = some v → k < r.2.2 ∧ c.slots[jSl G o.1.2 k]? = some v
  | 1 => c = arrV (jAid G o.1.2) o.2.length (fun j => o.2.getD j .null)
  | _ => c.vm = .none ∧ c.cls = jAid G o.1.2
/-- a fact of the class alone: it stays whatever is written -/
def jcls (c : Bool × jO) : Prop := c.1 = true ∧ ((c.2.1.1 = 0 ∧ c.2.2 = []) ∨ 2 ≤ c.2.1.1)
def jcp (c d : Bool × jO) : Prop := (c.1 = true ∧ d.1 = true) ∨ jcls c ∨ jcls d
theorem jcp.symm {c d : Bool × jO} (h : jcp c d) : jcp d c := h.elim (fun q => Or.inl ⟨q.2, q.1⟩) (fun q => q.elim (fun z => Or.inr (Or.inr z)) (fun z => Or.inr (Or.inl z)))
def jcell (G : jG) (H : Heap) (a : Nat) (c : Bool × jO) : Prop := (c.1 = false → jN G ≤ a) ∧ ∃ cell : Cell, H[a]? = some cell ∧ jmt G a c.2 cell
def jbase (G : jG) (H : Heap) : Prop := jN G ≤ H.size ∧ (∀ q, q < jN G → H[q]? = (jH0 G)[q]?) ∧ ∀ q, H.size ≤ q → jMon G q = {}
def jone (a : Nat) (f : Bool) (o : jO) : jH := fun b c => b = a ∧ c = (f, o)
/-- one cell -/
def jA (f : Bool) (a : Nat) (o : jO) : jP := fun h => h = jone a f o
abbrev ow (a k : Nat) (fs : List Value) : jP := jA false a ((0, k), fs)
abbrev oa (a k : Nat) (vs : List Value) : jP := jA false a ((1, k), vs)
abbrev im (a k : Nat) (fs : List Value) : jP := jA true a ((0, k), fs)
abbrev ia (a k : Nat) (vs : List Value) : jP := jA true a ((1, k), vs)
def jcompat (n : Nat) (w : Nat → jH) : Prop := ∀ (i j a : Nat) (c d : Bool × jO), i < n → j < n → i ≠ j → w i a c → w j a d → jcp c d
def jfam (Φ : List jP) (w : Nat → jH) : Prop := (∀ (i : Nat) (P : jP), Φ[i]? = some P → P (w i)) ∧ jcompat Φ.length w
def jun (n : Nat) (w : Nat → jH) : jH := fun a c => ∃ i, i < n ∧ w i a c
/-- atoms side by side -/
def jsl (Φ : List jP) : jP := fun h => ∃ w, jfam Φ w ∧ h = jun Φ.length w
def jsat (G : jG) (Φ : List jP) (H : Heap) : Prop := jbase G H ∧ ∃ w, jfam Φ w ∧ ∀ (i a : Nat) (c : Bool × jO), i < Φ.length → w i a c → jcell G H a c
/-- a bundle: some atoms, some of their names hidden -/
def jbun {X : Type} (p : X → Prop) (Ψ : X → List jP) : jP := fun h => ∃ x, p x ∧ jsl (Ψ x) h
theorem jget_append {α : Type} {A B : List α} {i : Nat} {P : α} (h : (A ++ B)[i]? = some P) : (i < A.length ∧ A[i]? = some P) ∨ (A.length ≤ i ∧ B[i - A.length]? = some P) := by
  by_cases hi : i < A.length
  · rw [List.getElem?_append_left hi] at h; exact Or.inl ⟨hi, h⟩
  · rw [List.getElem?_append_right (by omega)] at h; exact Or.inr ⟨by omega, h⟩
theorem jlt {α : Type} {A : List α} {i : Nat} {P : α} (h : A[i]? = some P) : i < A.length := (List.getElem?_eq_some_iff.mp h).1
/-- two families side by side -/
theorem jfam_app {A B : List jP} {w v : Nat → jH} (hw : jfam A w) (hv : jfam B v) (hx : ∀ i j a c d, i < A.length → j < B.length → w i a c → v j a d → jcp c d) : jfam (A ++ B) (fun i => if i < A.length then w i else v (i - A.length)) := by
  refine ⟨fun i P h => ?_, fun i j a c d hi hj hne h1 h2 => ?_⟩
  · rcases jget_append h with ⟨hl, e⟩ | ⟨hl, e⟩
    · simp only [hl, if_true]; exact hw.1 i P e
    · simp only [Nat.not_lt.mpr hl, if_false]; exact hv.1 _ P e
  · rw [List.length_append] at hi hj
    by_cases a1 : i < A.length <;> by_cases a2 : j < A.length <;> simp only [a1, a2, if_true, if_false] at h1 h2
    · exact hw.2 i j a c d a1 a2 hne h1 h2
    · exact hx i (j - A.length) a c d a1 (by omega) h1 h2
    · exact (hx j (i - A.length) a d c a2 (by omega) h2 h1).symm
    · exact hv.2 (i - A.length) (j - A.length) a c d (by omega) (by omega) (by omega) h1 h2
theorem jsat_app {G : jG} {A B : List jP} {H : Heap} (h : jsat G (A ++ B) H) : jbase G H ∧ ∃ w v, jfam A w ∧ jfam B v ∧ (∀ i j a c d, i < A.length → j < B.length → w i a c → v j a d → jcp c d) ∧ (∀ i a c, i < A.length → w i a c → jcell G H a c) ∧ (∀ i a c, i < B.length → v i a c → jcell G H a c) := by
  obtain ⟨hb, w, hw, hc⟩ := h
  refine ⟨hb, w, fun i => w (i + A.length), ⟨fun i P e => ?_, fun i j a c d hi hj hne h1 h2 => ?_⟩, ⟨fun i P e => ?_, fun i j a c d hi hj hne h1 h2 => ?_⟩, fun i j a c d hi hj h1 h2 => ?_, fun i a c hi h1 => ?_, fun i a c hi h1 => ?_⟩
  · exact hw.1 i P (by rw [List.getElem?_append_left (jlt e)]; exact e)
  · exact hw.2 i j a c d (by rw [List.length_append]; omega) (by rw [List.length_append]; omega) hne h1 h2
  · exact hw.1 (i + A.length) P (by rw [List.getElem?_append_right (by omega), Nat.add_sub_cancel]; exact e)
  · exact hw.2 _ _ a c d (by rw [List.length_append]; omega) (by rw [List.length_append]; omega) (by omega) h1 h2
  · exact hw.2 _ _ a c d (by rw [List.length_append]; omega) (by rw [List.length_append]; omega) (by omega) h1 h2
  · exact hc _ a c (by rw [List.length_append]; omega) h1
  · exact hc _ a c (by rw [List.length_append]; omega) h1
theorem jsat_of {G : jG} {A B : List jP} {H : Heap} (hb : jbase G H) {w v : Nat → jH} (hw : jfam A w) (hv : jfam B v) (hx : ∀ i j a c d, i < A.length → j < B.length → w i a c → v j a d → jcp c d) (hcw : ∀ i a c, i < A.length → w i a c → jcell G H a c) (hcv : ∀ i a c, i < B.length → v i a c → jcell G H a c) : jsat G (A ++ B) H := by
  refine ⟨hb, _, jfam_app hw hv hx, fun i a c hi h => ?_⟩
  rw [List.length_append] at hi
  by_cases a1 : i < A.length <;> simp only [a1, if_true, if_false] at h
  · exact hcw i a c a1 h
  · exact hcv _ a c (by omega) h
/-- other atoms in the place of the first ones: their facts lie among the old ones' -/
theorem jsat_ent {G : jG} {A A' B : List jP} {H : Heap} (he : ∀ h, jsl A h → ∃ h', (∀ a c, h' a c → h a c) ∧ jsl A' h') (h : jsat G (A ++ B) H) : jsat G (A' ++ B) H := by
  obtain ⟨hb, w, v, hw, hv, hx, hcw, hcv⟩ := jsat_app h
  obtain ⟨h', hs, w', hw', e⟩ := he _ ⟨w, hw, rfl⟩
  have key : ∀ i a c, i < A'.length → w' i a c → ∃ j, j < A.length ∧ w j a c := fun i a c hi hc => hs a c (by rw [e]; exact ⟨i, hi, hc⟩)
  refine jsat_of hb hw' hv (fun i j a c d hi hj h1 h2 => ?_) (fun i a c hi h1 => ?_) hcv
  · obtain ⟨k, hk, h3⟩ := key i a c hi h1
    exact hx k j a c d hk hj h3 h2
  · obtain ⟨k, hk, h3⟩ := key i a c hi h1
    exact hcw k a c hk h3
/-- some of the atoms, in an order of ours: by their places -/
theorem jfam_pick {A A' : List jP} {w : Nat → jH} (is : List Nat) (hn : va_nd is = true) (h : is.map (fun i => A[i]?) = A'.map some) (hw : jfam A w) : jfam A' (fun k => w (is.getD k 0)) ∧ ∀ k, k < A'.length → is.getD k 0 < A.length := by
  have hl : is.length = A'.length := by
    have := congrArg List.length h
    rwa [List.length_map, List.length_map] at this
  have at' : ∀ k P, A'[k]? = some P → A[is.getD k 0]? = some P := by
    intro k P e
    have hk : k < is.length := by rw [hl]; exact jlt e
    have h1 : (is.map (fun i => A[i]?))[k]? = some (some P) := by rw [h, List.getElem?_map, e]; rfl
    rw [List.getElem?_map, List.getElem?_eq_getElem hk] at h1
    have h2 : A[is[k]]? = some P := Option.some.inj h1
    have h3 : is.getD k 0 = is[k] := by rw [List.getD_eq_getElem?_getD, List.getElem?_eq_getElem hk]; rfl
    rw [h3]; exact h2
  have lt' : ∀ k, k < A'.length → is.getD k 0 < A.length := fun k hk => jlt (at' k _ (List.getElem?_eq_getElem hk))
  refine ⟨⟨fun k P e => hw.1 _ P (at' k P e), fun i j a c d hi hj hne h1 h2 => hw.2 _ _ a c d (lt' i hi) (lt' j hj) (fun q => hne ?_) h1 h2⟩, lt'⟩
  have e1 : is[i]? = some (is.getD i 0) := by rw [List.getD_eq_getElem?_getD, List.getElem?_eq_getElem (by omega)]; rfl
  have e2 : is[j]? = some (is.getD j 0) := by rw [List.getD_eq_getElem?_getD, List.getElem?_eq_getElem (by omega)]; rfl
  exact va_nd_inj is hn i j _ e1 (by rw [q]; exact e2)
theorem jsl_pick {A A' : List jP} (is : List Nat) (hn : va_nd is = true) (h : is.map (fun i => A[i]?) = A'.map some) : ∀ q, jsl A q → ∃ q', (∀ a c, q' a c → q a c) ∧ jsl A' q' := by
  rintro q ⟨w, hw, rfl⟩
  obtain ⟨h1, h2⟩ := jfam_pick is hn h hw
  exact ⟨_, fun a c ⟨k, hk, hc⟩ => ⟨_, h2 k hk, hc⟩, _, h1, rfl⟩
theorem jsat_pick {G : jG} {A A' B : List jP} {H : Heap} (is : List Nat) (hn : va_nd is = true) (hp : is.map (fun i => A[i]?) = A'.map some) (h : jsat G (A ++ B) H) : jsat G (A' ++ B) H := jsat_ent (jsl_pick is hn hp) h
theorem jsl_one {P : jP} {h : jH} : jsl [P] h ↔ P h := by
  constructor
  · rintro ⟨w, hw, rfl⟩
    have := hw.1 0 P rfl
    have e : jun [P].length w = w 0 := by
      funext a c
      apply propext
      constructor
      · rintro ⟨i, hi, hc⟩
        have : i = 0 := by have : i < 1 := hi; omega
        subst this; exact hc
      · exact fun hc => ⟨0, Nat.zero_lt_one, hc⟩
    rw [e]; exact this
  · intro hp
    refine ⟨fun _ => h, ⟨fun i P' e => ?_, fun i j a c d hi hj hne _ _ => ?_⟩, ?_⟩
    · have hi : i < 1 := jlt e
      have : i = 0 := by omega
      subst this
      cases e; exact hp
    · have h1 : i < 1 := hi
      have h2 : j < 1 := hj
      omega
    · funext a c
      exact propext ⟨fun hc => ⟨0, Nat.zero_lt_one, hc⟩, fun ⟨_, _, hc⟩ => hc⟩
theorem jsat_open {G : jG} {X : Type} {p : X → Prop} {Ψ : X → List jP} {B : List jP} {H : Heap} (h : jsat G (jbun p Ψ :: B) H) : ∃ x, p x ∧ jsat G (Ψ x ++ B) H := by
  have h0 : jsat G ([jbun p Ψ] ++ B) H := h
  obtain ⟨hb, w, v, hw, hv, hx, hcw, hcv⟩ := jsat_app h0
  obtain ⟨x, hp, w', hw', e⟩ := hw.1 0 _ rfl
  have key : ∀ i a c, i < (Ψ x).length → w' i a c → w 0 a c := fun i a c hi hc => by rw [e]; exact ⟨i, hi, hc⟩
  exact ⟨x, hp, jsat_of hb hw' hv (fun i j a c d hi hj h1 h2 => hx 0 j a c d Nat.zero_lt_one hj (key i a c hi h1) h2) (fun i a c hi h1 => hcw 0 a c Nat.zero_lt_one (key i a c hi h1)) hcv⟩
theorem jsat_close {G : jG} {X : Type} {p : X → Prop} {Ψ : X → List jP} {B : List jP} {H : Heap} (x : X) (hp : p x) (h : jsat G (Ψ x ++ B) H) : jsat G (jbun p Ψ :: B) H :=
  show jsat G ([jbun p Ψ] ++ B) H from jsat_ent (fun h hh => ⟨h, fun _ _ z => z, jsl_one.mpr ⟨x, hp, hh⟩⟩) h
/-- all of it frozen -/
def jpers (P : jP) : Prop := ∀ h, P h → ∀ a c, h a c → c.1 = true
theorem jpers_A {a : Nat} {o : jO} : jpers (jA true a o) := fun h e a c hc => by rw [e] at hc; rw [hc.2]
theorem jpers_sl {A : List jP} (hA : ∀ P ∈ A, jpers P) : jpers (jsl A) := by
  rintro h ⟨w, hw, rfl⟩ a c ⟨i, hi, hc⟩
  have e := List.getElem?_eq_getElem hi
  exact hA _ (List.mem_of_getElem? e) _ (hw.1 i _ e) a c hc
theorem jpers_bun {X : Type} {p : X → Prop} {Ψ : X → List jP} (h : ∀ x, p x → ∀ P ∈ Ψ x, jpers P) : jpers (jbun p Ψ) := fun _ ⟨x, hp, hh⟩ a c hc => jpers_sl (h x hp) _ hh a c hc
theorem jsat_dup {G : jG} {A : List jP} {H : Heap} {i : Nat} {P : jP} (hi : A[i]? = some P) (hp : jpers P) (h : jsat G A H) : jsat G (P :: A) H := by
  obtain ⟨hb, w, hw, hc⟩ := h
  have hP := hw.1 i P hi
  have hl := jlt hi
  refine jsat_of (A := [P]) hb (w := fun _ => w i) ⟨fun k Q e => ?_, fun k j a c d hk hj hne _ _ => ?_⟩ hw (fun k j a c d hk hj h1 h2 => ?_) (fun k a c hk h1 => hc i a c hl h1) hc
  · have hk : k < 1 := jlt e
    have : k = 0 := by omega
    subst this
    cases e; exact hP
  · have h1 : k < 1 := hk
    have h2 : j < 1 := hj
    omega
  · by_cases e : j = i
    · subst e
      exact Or.inl ⟨hp _ hP a c h1, hp _ hP a d h2⟩
    · exact hw.2 i j a c d hl hj (Ne.symm e) h1 h2
/-- a fact of an old cell -/
def jold (G : jG) (a : Nat) (o : jO) : Prop := a < jN G ∧ ∃ cell : Cell, (jH0 G)[a]? = some cell ∧ jmt G a o cell
theorem jsat_old {G : jG} {A : List jP} {H : Heap} {a : Nat} {o : jO} (ho : jold G a o) (h : jsat G A H) : jsat G (jA true a o :: A) H := by
  obtain ⟨hb, w, hw, hc⟩ := h
  obtain ⟨ha, cell, h1, h2⟩ := ho
  refine jsat_of (A := [jA true a o]) hb (w := fun _ => jone a true o) ⟨fun k Q e => ?_, fun k j a c d hk hj hne _ _ => ?_⟩ hw (fun k j a c d hk hj h3 h4 => ?_) (fun k b c hk h3 => ?_) hc
  · have hk : k < 1 := jlt e
    have : k = 0 := by omega
    subst this
    cases e; rfl
  · have h1 : k < 1 := hk
    have h2 : j < 1 := hj
    omega
  · obtain ⟨rfl, rfl⟩ := h3
    refine Or.inl ⟨rfl, ?_⟩
    cases hd : d.1 with
    | true => rfl
    | false =>
      have := (hc j _ d hj h4).1 hd
      omega
  · obtain ⟨rfl, rfl⟩ := h3
    exact ⟨fun q => (by cases q), cell, by rw [hb.2.1 _ ha]; exact h1, h2⟩
theorem jsat_get {G : jG} {A : List jP} {H : Heap} {i : Nat} {f : Bool} {a : Nat} {o : jO} (hi : A[i]? = some (jA f a o)) (h : jsat G A H) : jcell G H a (f, o) := by
  obtain ⟨hb, w, hw, hc⟩ := h
  have hP : w i = jone a f o := hw.1 i _ hi
  exact hc i a (f, o) (jlt hi) (by rw [hP]; exact ⟨rfl, rfl⟩)
theorem jmt_cls {G : jG} {a : Nat} {o o' : jO} {cell cell' : Cell} (he : o'.1 = o.1) (h1 : jmt G a o cell) (h2 : jmt G a o' cell') : cell'.vm = .none ∧ cell'.cls = cell.cls := by
  obtain ⟨⟨t, k⟩, vs⟩ := o
  obtain ⟨⟨t', k'⟩, vs'⟩ := o'
  cases he
  match t with
  | 0 =>
    obtain ⟨-, -, r, -, e1, -⟩ := h1
    obtain ⟨e0, -, r', -, e2, -⟩ := h2
    exact ⟨e0, e2.trans e1.symm⟩
  | 1 =>
    have e1 : cell = _ := h1
    have e2 : cell' = _ := h2
    rw [e1, e2]; exact ⟨rfl, rfl⟩
  | t + 2 =>
    exact ⟨h2.1, h2.2.trans h1.2.symm⟩
theorem jmt_of_cls {G : jG} {a : Nat} {c : Bool × jO} {cell cell' : Cell} (hc : jcls c) (h : jmt G a c.2 cell) (hv : cell'.vm = .none) (he : cell'.cls = cell.cls) : jmt G a c.2 cell' := by
  obtain ⟨f, ⟨t, k⟩, vs⟩ := c
  obtain ⟨-, ⟨e, z⟩ | e⟩ := hc
  · dsimp only at e z
    subst e; subst z
    obtain ⟨-, -, r, g1, g2, -⟩ := h
    exact ⟨hv, fun _ q => absurd rfl q, r, g1, he.trans g2, fun k v q => by simp at q⟩
  · match t, e, h with
    | 0, e, _ => exact absurd (show 2 ≤ 0 from e) (by decide)
    | 1, e, _ => exact absurd (show 2 ≤ 1 from e) (by decide)
    | t + 2, _, h => exact ⟨hv, he.trans h.2⟩
theorem jsat_set {G : jG} {A : List jP} {H H1 : Heap} {i : Nat} {a : Nat} {o o' : jO} {f' : Bool} (hi : A[i]? = some (jA false a o)) (h : jsat G A H) (hz : H1.size = H.size) (hq : ∀ q, q ≠ a → H1[q]? = H[q]?) (ho : o'.1 = o.1) {cell : Cell} (h1 : H1[a]? = some cell) (h2 : jmt G a o' cell) : jsat G (A.set i (jA f' a o')) H1 := by
  obtain ⟨hb, w, hw, hc⟩ := h
  have hP : w i = jone a false o := hw.1 i _ hi
  have hl := jlt hi
  have hme := hc i a (false, o) hl (by rw [hP]; exact ⟨rfl, rfl⟩)
  have hN : jN G ≤ a := hme.1 rfl
  obtain ⟨cell0, g1, g2⟩ := hme.2
  obtain ⟨hv, hcl⟩ := jmt_cls ho g2 h2
  have hno : ∀ j d, j < A.length → j ≠ i → w j a d → jcls d := fun j d hj hne hd => by
    rcases hw.2 i j a (false, o) d hl hj (Ne.symm hne) (by rw [hP]; exact ⟨rfl, rfl⟩) hd with q | q | q
    · cases q.1
    · cases q.1
    · exact q
  refine ⟨⟨by rw [hz]; exact hb.1, fun q hl => by rw [hq q (by omega)]; exact hb.2.1 q hl, fun q hl => hb.2.2 q (by omega)⟩, fun j => if j = i then jone a f' o' else w j, ⟨fun j P e => ?_, fun j k b c d hj hk hne h3 h4 => ?_⟩, fun j b c hj h3 => ?_⟩
  · by_cases e1 : j = i
    · subst e1
      rw [List.getElem?_set_self hl] at e
      cases e
      simp only [if_true]; rfl
    · rw [List.getElem?_set_ne (Ne.symm e1)] at e
      simp only [e1, if_false]
      exact hw.1 j P e
  · rw [List.length_set] at hj hk
    by_cases e1 : j = i <;> by_cases e2 : k = i <;> simp only [e1, e2, if_true, if_false] at h3 h4
    · omega
    · obtain ⟨rfl, rfl⟩ := h3
      exact Or.inr (Or.inr (hno k d hk e2 h4))
    · obtain ⟨rfl, rfl⟩ := h4
      exact Or.inr (Or.inl (hno j c hj e1 h3))
    · exact hw.2 j k b c d hj hk hne h3 h4
  · rw [List.length_set] at hj
    by_cases e1 : j = i <;> simp only [e1, if_true, if_false] at h3
    · obtain ⟨rfl, rfl⟩ := h3
      exact ⟨fun _ => hN, cell, h1, h2⟩
    · by_cases e2 : b = a
      · subst e2
        have hk := hno j c hj e1 h3
        obtain ⟨-, cell', q2, q3⟩ := hc j b c hj h3
        cases g1.symm.trans q2
        exact ⟨fun q => absurd (hk.1.symm.trans q) (by decide), cell, h1, jmt_of_cls hk q3 hv hcl⟩
      · obtain ⟨g1, cell', g2, g3⟩ := hc j b c hj h3
        exact ⟨g1, cell', by rw [hq b e2]; exact g2, g3⟩
/-- the class alone of what lies there -/
def jclo (o : jO) : jO := if o.1.1 = 0 then ((0, o.1.2), []) else ((2, o.1.2), [])
theorem jmt_clo {G : jG} {a : Nat} {o : jO} {c : Cell} (h : jmt G a o c) : jmt G a (jclo o) c := by
  obtain ⟨⟨t, k⟩, vs⟩ := o
  match t, h with
  | 0, h =>
    obtain ⟨g0, -, r, g1, g2, -⟩ := h
    exact ⟨g0, fun _ q => absurd rfl q, r, g1, g2, fun k v (q : ([] : List Value)[k]? = some v) => by simp at q⟩
  | 1, h =>
    have e : c = _ := h
    rw [e]; exact ⟨rfl, rfl⟩
  | t + 2, h => exact ⟨h.1, h.2⟩
theorem jsat_class {G : jG} {A : List jP} {H : Heap} {i : Nat} {f : Bool} {a : Nat} {o : jO} (hi : A[i]? = some (jA f a o)) (h : jsat G A H) : jsat G (jA true a (jclo o) :: A) H := by
  obtain ⟨-, cell, g1, g2⟩ := jsat_get hi h
  obtain ⟨hb, w, hw, hc⟩ := h
  have hcl : jcls (true, jclo o) := by
    obtain ⟨⟨t, k⟩, vs⟩ := o
    by_cases e : t = 0
    · subst e; exact ⟨rfl, Or.inl ⟨rfl, rfl⟩⟩
    · refine ⟨rfl, Or.inr ?_⟩
      simp [jclo, e]
  refine jsat_of (A := [jA true a (jclo o)]) hb (w := fun _ => jone a true (jclo o)) ⟨fun k Q e => ?_, fun k j a c d hk hj hne _ _ => ?_⟩ hw (fun k j a c d hk hj h3 h4 => ?_) (fun k b c hk h3 => ?_) hc
  · have hk : k < 1 := jlt e
    have : k = 0 := by omega
    subst this
    cases e; rfl
  · have h1 : k < 1 := hk
    have h2 : j < 1 := hj
    omega
  · obtain ⟨rfl, rfl⟩ := h3
    exact Or.inr (Or.inl hcl)
  · obtain ⟨rfl, rfl⟩ := h3
    exact ⟨fun q => (by cases q), cell, g1, jmt_clo g2⟩
theorem jsat_own {G : jG} {A : List jP} {H : Heap} {i : Nat} {a : Nat} {o : jO} (hi : A[i]? = some (jA false a o)) (h : jsat G A H) : jN G ≤ a := (jsat_get hi h).1 rfl
theorem jsat_freeze {G : jG} {A : List jP} {H : Heap} {i : Nat} {a : Nat} {o : jO} (hi : A[i]? = some (jA false a o)) (h : jsat G A H) : jsat G (A.set i (jA true a o)) H := by
  obtain ⟨-, cell, h1, h2⟩ := jsat_get hi h
  exact jsat_set hi h rfl (fun _ _ => rfl) rfl h1 h2
theorem jsat_new {G : jG} {A : List jP} {H H1 : Heap} {o : jO} {f : Bool} (h : jsat G A H) (hz : H1.size = H.size + 1) (hq : ∀ q, q < H.size → H1[q]? = H[q]?) {cell : Cell} (h1 : H1[H.size]? = some cell) (h2 : jmt G H.size o cell) : jsat G (jA f H.size o :: A) H1 := by
  obtain ⟨hb, w, hw, hc⟩ := h
  have lt : ∀ {b c}, jcell G H b c → b < H.size := fun ⟨_, cl, e, _⟩ => (Array.getElem?_eq_some_iff.mp e).1
  have hb1 : jbase G H1 := ⟨by rw [hz]; exact Nat.le_succ_of_le hb.1, fun q hl => by rw [hq q (Nat.lt_of_lt_of_le hl hb.1)]; exact hb.2.1 q hl, fun q hl => hb.2.2 q (by omega)⟩
  refine jsat_of (A := [jA f H.size o]) hb1 (w := fun _ => jone H.size f o) ⟨fun k Q e => ?_, fun k j a c d hk hj hne _ _ => ?_⟩ hw (fun k j a c d hk hj h3 h4 => ?_) (fun k b c hk h3 => ?_) (fun j b c hj h3 => ?_)
  · have hk : k < 1 := jlt e
    have : k = 0 := by omega
    subst this
    cases e; rfl
  · have h1 : k < 1 := hk
    have h2 : j < 1 := hj
    omega
  · obtain ⟨rfl, rfl⟩ := h3
    exact absurd (lt (hc j _ d hj h4)) (Nat.lt_irrefl _)
  · obtain ⟨rfl, rfl⟩ := h3
    exact ⟨fun _ => hb.1, cell, h1, h2⟩
  · have g := hc j b c hj h3
    obtain ⟨g1, cell', g2, g3⟩ := g
    exact ⟨g1, cell', by rw [hq b (lt (hc j b c hj h3))]; exact g2, g3⟩
/-- new cells beside: all that lay there stays (the law of a step that writes nothing old) -/
theorem jsat_grow {G : jG} {A : List jP} {H H1 : Heap} (h : jsat G A H) (hz : H.size ≤ H1.size) (hq : ∀ q, q < H.size → H1[q]? = H[q]?) : jsat G A H1 := by
  obtain ⟨hb, w, hw, hc⟩ := h
  have lt : ∀ {b c}, jcell G H b c → b < H.size := fun ⟨_, cl, e, _⟩ => (Array.getElem?_eq_some_iff.mp e).1
  refine ⟨⟨Nat.le_trans hb.1 hz, fun q hl => by rw [hq q (Nat.lt_of_lt_of_le hl hb.1)]; exact hb.2.1 q hl, fun q hl => hb.2.2 q (Nat.le_trans hz hl)⟩, w, hw, fun i b c hi h3 => ?_⟩
  have g := hc i b c hi h3
  obtain ⟨g1, cell', g2, g3⟩ := g
  exact ⟨g1, cell', by rw [hq b (lt (hc i b c hi h3))]; exact g2, g3⟩
/-- what an atom says of the world, told at any place of the list -/
theorem jsat_pure {G : jG} {A : List jP} {H : Heap} {i : Nat} {P : jP} {z : Prop} (hi : A[i]? = some P) (hz : ∀ h, P h → z) (h : jsat G A H) : z := by
  obtain ⟨-, w, hw, -⟩ := h
  exact hz _ (hw.1 i P hi)
/-- what the old heap and the statics hold, told once for all states: numbers, the empty array, the caches, EMPTY, PRESENT, the constants' texts -/
def jG0 (G : jG) : Prop :=
  (∀ q ∈ jsi, jSV G q.1 = .int q.2) ∧
  (∃ a, jSV G jiEmptyArr = .ref a ∧ jold G a ((1, 5), [])) ∧
  (∃ a, jSV G jiEMPTY = .ref a ∧ jold G a ((0, jkObj), [])) ∧
  (∃ a, jSV G jiPRESENT = .ref a ∧ jold G a ((0, jkObj), [])) ∧
  (∃ (a : Nat) (ad : Nat → Nat), jSV G jiIC = .ref a ∧ jold G a ((1, 7), (List.range 256).map (fun j => .ref (ad j))) ∧ ∀ j, j < 256 → jold G (ad j) ((0, jkInt), [.int (Int32.ofInt ((j : Int) - 128))])) ∧
  (∃ (a : Nat) (ad : Nat → Nat), jSV G jiCC = .ref a ∧ jold G a ((1, 8), (List.range 128).map (fun j => .ref (ad j))) ∧ ∀ j, j < 128 → jold G (ad j) ((0, jkChar), [.int (Int32.ofInt (j : Int))])) ∧
  (∀ k, k = 9 ∨ k = 19 ∨ k = 20 ∨ k = 21 → jSV G k = .null ∨ ∃ a, jSV G k = .ref a) ∧
  (∀ k bs, jkb[k]? = some bs → ∃ v, jold G (jKA G k) ((0, jkStr), [.ref v, .int 0]) ∧ jold G v ((1, 0), bs.map (fun x => .int (Int32.ofNat x))))
/-- methods that an interface has from one above: receiver's class, the link's name, who declares it, the chosen one -/
def jfo : List (String × MethodName × String × MethodName) := [("java/util/TreeMap", ⟨"java/util/NavigableMap", "size", "()I"⟩, "java/util/Map", ⟨"java/util/TreeMap", "size", "()I"⟩), ("java/util/TreeMap", ⟨"java/util/NavigableMap", "put", "(Ljava/lang/Object;Ljava/lang/Object;)Ljava/lang/Object;"⟩, "java/util/Map", ⟨"java/util/TreeMap", "put", "(Ljava/lang/Object;Ljava/lang/Object;)Ljava/lang/Object;"⟩), ("java/util/TreeMap", ⟨"java/util/NavigableMap", "containsKey", "(Ljava/lang/Object;)Z"⟩, "java/util/Map", ⟨"java/util/TreeMap", "containsKey", "(Ljava/lang/Object;)Z"⟩)]
def jFo (q : String × MethodName × String × MethodName) (U : State) : Prop := (Cond.interfaceMethod q.2.1.cls q.2.2.1 q.2.1.name q.2.1.desc).before #[] U = true ∧ (Cond.publicMethod ⟨q.2.2.1, q.2.1.name, q.2.1.desc⟩).before #[] U = true ∧ (Cond.publicMethod q.2.2.2).before #[] U = true ∧ (Cond.unhidden q.1 q.2.1.name q.2.1.desc).before #[] U = true
theorem jFo_face {s : State} {vm' : Vm} (h : s.vm.Alike vm') {ref owner name desc : String} {args : Array Value} : (Cond.interfaceMethod ref owner name desc).before args (s.setVm vm') = (Cond.interfaceMethod ref owner name desc).before args s := by
  simp only [Cond.before, Cond.holds, Cond.value, State.vm_setVm, h.findClass, State.methodFound?_setVm h, State.methodNamed?_setVm h, arm_isInterface_setVm h]
theorem jFo.moved {q : String × MethodName × String × MethodName} {u U : State} (hvm : u.vm.Alike U.vm) (h : jFo q u) : jFo q U := by
  obtain ⟨h1, h2, h3, h4⟩ := h
  have tr : ∀ {c : Cond}, c.onTables = true → c.before #[] (u.setVm U.vm) = true → c.before #[] U = true := by
    intro c hc h
    have e := Cond.onTables_vm (A := #[]) (A' := #[]) (U := u) (U' := U) U.vm c hc
    have hU : U.setVm U.vm = U := rfl
    rw [hU] at e
    rw [← e]
    exact h
  exact ⟨tr rfl (by rw [jFo_face hvm]; exact h1), tr rfl (by rw [Cond.publicMethod_setVm hvm]; exact h2), tr rfl (by rw [Cond.publicMethod_setVm hvm]; exact h3), tr rfl (by rw [Cond.unhidden_setVm hvm]; exact h4)⟩
/-- what is known of the tables at a state: classes, arrays, castable pairs, nest mates' links, interfaces, statics, constants -/
def jKn (G : jG) (U : State) : Prop :=
  jG0 G ∧ va_K (G.1, G.2.1) jcl [] U ∧
  (∀ k ty, jty[k]? = some ty → ArrOfT U (jAid G k) ty) ∧ (∀ k ty, jtr[k]? = some ty → va_RA U (jAid G k) ty) ∧
  (∀ q ∈ jca, va_Nw (.castable q.1 q.2) U) ∧
  (∀ q ∈ jfn, va_Nw (.fieldLinkNest q.1 q.2.1 q.2.2.1 q.2.2.2.1 q.2.2.2.2.1 q.2.2.2.2.2) U) ∧
  (∀ q ∈ jmn, va_Nw (.methodLinkNest q.1 q.2.1 q.2.2.1 q.2.2.2) U) ∧
  (∀ q ∈ jde, va_Nw (.declares q) U) ∧
  (∀ q ∈ jao, va_AO q U) ∧
  (∀ q ∈ jfw, va_Fw q.1 q.2.1 q.2.2 U) ∧
  (∀ q ∈ jnc, va_Nc q.1 q.2 U) ∧
  (∀ k q, jst[k]? = some q → va_Z q.1 q.2.1 q.2.2 (jSV G k) (fun a => jN G ≤ a) U (jH0 G)) ∧
  (∀ k q, jks[k]? = some q → vk_R q.1 q.2.1 q.2.2 (jKA G k) U) ∧
  va_Mi "[Ljava/lang/Object;" (jKA G 1000) U ∧ va_Dc U ∧
  jx_Zq Bundle.tN "UNASSIGNED_STACK" Bundle.steD (fun a => jN G ≤ a) U (jH0 G) ∧ jx_Zq Bundle.tN "SUPPRESSED_SENTINEL" Bundle.listD (fun a => jN G ≤ a) U (jH0 G) ∧ ∀ q ∈ jfo, jFo q U
theorem jKn.g0 {G : jG} {U : State} (h : jKn G U) : jG0 G := h.1
theorem jKn.cl {G : jG} {U : State} (h : jKn G U) : va_K (G.1, G.2.1) jcl [] U := h.2.1
theorem jKn.ar {G : jG} {U : State} (h : jKn G U) : ∀ k ty, jty[k]? = some ty → ArrOfT U (jAid G k) ty := h.2.2.1
theorem jKn.ra {G : jG} {U : State} (h : jKn G U) : ∀ k ty, jtr[k]? = some ty → va_RA U (jAid G k) ty := h.2.2.2.1
theorem jKn.ca {G : jG} {U : State} (h : jKn G U) : ∀ q ∈ jca, va_Nw (.castable q.1 q.2) U := h.2.2.2.2.1
theorem jKn.fn {G : jG} {U : State} (h : jKn G U) : ∀ q ∈ jfn, va_Nw (.fieldLinkNest q.1 q.2.1 q.2.2.1 q.2.2.2.1 q.2.2.2.2.1 q.2.2.2.2.2) U := h.2.2.2.2.2.1
theorem jKn.mn {G : jG} {U : State} (h : jKn G U) : ∀ q ∈ jmn, va_Nw (.methodLinkNest q.1 q.2.1 q.2.2.1 q.2.2.2) U := h.2.2.2.2.2.2.1
theorem jKn.de {G : jG} {U : State} (h : jKn G U) : ∀ q ∈ jde, va_Nw (.declares q) U := h.2.2.2.2.2.2.2.1
theorem jKn.ao {G : jG} {U : State} (h : jKn G U) : ∀ q ∈ jao, va_AO q U := h.2.2.2.2.2.2.2.2.1
theorem jKn.fw {G : jG} {U : State} (h : jKn G U) : ∀ q ∈ jfw, va_Fw q.1 q.2.1 q.2.2 U := h.2.2.2.2.2.2.2.2.2.1
theorem jKn.nc {G : jG} {U : State} (h : jKn G U) : ∀ q ∈ jnc, va_Nc q.1 q.2 U := h.2.2.2.2.2.2.2.2.2.2.1
theorem jKn.st {G : jG} {U : State} (h : jKn G U) : ∀ k q, jst[k]? = some q → va_Z q.1 q.2.1 q.2.2 (jSV G k) (fun a => jN G ≤ a) U (jH0 G) := h.2.2.2.2.2.2.2.2.2.2.2.1
theorem jKn.ks {G : jG} {U : State} (h : jKn G U) : ∀ k q, jks[k]? = some q → vk_R q.1 q.2.1 q.2.2 (jKA G k) U := h.2.2.2.2.2.2.2.2.2.2.2.2.1
theorem jKn.mi {G : jG} {U : State} (h : jKn G U) : va_Mi "[Ljava/lang/Object;" (jKA G 1000) U := h.2.2.2.2.2.2.2.2.2.2.2.2.2.1
theorem jKn.dc {G : jG} {U : State} (h : jKn G U) : va_Dc U := h.2.2.2.2.2.2.2.2.2.2.2.2.2.2.1
theorem jKn.zu {G : jG} {U : State} (h : jKn G U) : jx_Zq Bundle.tN "UNASSIGNED_STACK" Bundle.steD (fun a => jN G ≤ a) U (jH0 G) := h.2.2.2.2.2.2.2.2.2.2.2.2.2.2.2.1
theorem jKn.zs {G : jG} {U : State} (h : jKn G U) : jx_Zq Bundle.tN "SUPPRESSED_SENTINEL" Bundle.listD (fun a => jN G ≤ a) U (jH0 G) := h.2.2.2.2.2.2.2.2.2.2.2.2.2.2.2.2.1
theorem jKn.fo {G : jG} {U : State} (h : jKn G U) : ∀ q ∈ jfo, jFo q U := h.2.2.2.2.2.2.2.2.2.2.2.2.2.2.2.2.2
theorem jKn.warm {G : jG} {s U : State} (hW : s.WarmedH U.vm) (h : jKn G s) : jKn G U := by
  obtain ⟨h0, h1, h2, h2', h3, h4, h5, h6, h7, h8, h9, h10, h11, hmi, hdc, h12, h13, h14⟩ := h
  have ha := hW.alike
  exact ⟨h0, h1.moved ha, fun k ty hk => arrOfT_moved ha (h2 k ty hk), fun k ty hk => (h2' k ty hk).moved ha, fun q hq => va_Nw.warmC hW (h3 q hq), fun q hq => va_Nw.warmF hW (h4 q hq), fun q hq => va_Nw.warmM hW (h5 q hq), fun q hq => va_Nw.warmD hW (h6 q hq),
    fun q hq => va_AO.moved ha (h7 q hq), fun q hq => va_Fw.moved (jfw_ok q hq) ha (h8 q hq), fun q hq => va_Nc.moved ha (h9 q hq), fun k q hk => va_Z.moved ha (h10 k q hk), fun k q hk => vk_R.warm hW (h11 k q hk), hmi.moved ha, hdc.moved ha, jx_Zq.moved ha h12, jx_Zq.moved ha h13, fun q hq => (h14 q hq).moved ha⟩
theorem jKn.calling {G : jG} {s : State} {g : JFrame} {mk : MethodId} {a : Array Value} (h : jKn G s) : jKn G (s.calling g mk a) := jKn.warm (s := s) (U := s.calling g mk a) (State.WarmedH.refl s) h
/-- a method: code, its class, locals, answer, name, handlers -/
abbrev jM : Type := ByteArray × String × Nat × Option FieldType × String × Option (List (Nat × Nat × Nat × Nat))
def jws (y : MethodName) (M : jM) : List Cond := match M.2.2.2.2.2 with
  | none => ws_ y M.1 M.2.2.1 M.2.2.2.1
  | some hh => wsW_ y M.1 M.2.2.1 M.2.2.2.1 hh
def jtable (M : jM) : List ExceptionTableEntry := match M.2.2.2.2.2 with
  | none => []
  | some hh => tableOf hh
def jR (d C : Nat) : Room := { frames := d, cells := C, slots := 4 * C, locals := 64 * d }
abbrev jQ : Type := Outcome → List jP → Prop
def jQc (G : jG) (F : List jP) (Q : jQ) : Array Value → State → Outcome → State → Prop := fun _ _ o t => ∃ Ψ, Q o Ψ ∧ jsat G (Ψ ++ F) t.heap
def jXc (G : jG) (F : List jP) (Q : jQ) : String → Addr → State → State → Prop := fun _ q _ t => ∃ Ψ, Q (.threw q) Ψ ∧ jsat G (Ψ ++ F) t.heap
/-- A CONTRACT: from the atoms Φ, beside any other atoms, the method y comes to an outcome and atoms of Q; C units are room enough; d frames -/
def jS (l : Launch) (G : jG) (y : MethodName) (M : jM) (d : Nat) (av : List Value) (Φ : List jP) (C : Nat) (Q : jQ) : Prop :=
  l.stackTraces = false → ∀ F : List jP, jx_Met l y (jws y M) (jR d C) (va_Pc av (fun U => jKn G U ∧ jsat G (Φ ++ F) U.heap)) (jQc G F Q) (jXc G F Q) C (4 * C) (fun a => jN G ≤ a)
abbrev jX : Type := Program × Env × State × MethodId × Array Value × List Frame × Method × Code × List jP
def jCx (M : jM) (l : Launch) (G : jG) (p : Program) (s : State) (m : MethodId) (args : Array Value) (meth : Method) (c : Code) : Prop :=
  p.tables.exec = Jvm.exec ∧ c.code = M.1 ∧ c.maxLocals = M.2.2.1 ∧ s.vm.findClass M.2.1 = some m.cls ∧ meth.sig.returnType = M.2.2.2.1 ∧ meth.locks = false ∧ (∀ w ∈ lw_all, w.before args s = true) ∧ jKn G s ∧ c.exceptionTable.toList = jtable M ∧ l.stackTraces = false ∧ meth.name = M.2.2.2.2.1
def jMQ (G : jG) (C : Nat) (Q : jQ) (s : State) (args : Array Value) (below : List Frame) (F : List jP) : State → Prop := jx_MQ below (jQc G F Q) (jXc G F Q) args s C (4 * C) (fun a => jN G ≤ a)
/-- the walk: at pc, with these locals and this stack, the atoms Φ in the heap, b units left: the method comes to Q -/
def jT (M : jM) (l : Launch) (G : jG) (d C : Nat) (Q : jQ) (X : jX) (Φ : List jP) (pc : Nat) (lv : List (Nat × Value)) (st : List Value) (b : Nat) : Prop := match X with
  | (p, e, s, m, args, below, meth, c, F) => jCx M l G p s m args meth c → ∀ (H : Heap) (locs : List Loc) (cells slots : Nat) (ls : Array Slot), jsat G (Φ ++ F) H → (∀ q ∈ locs, jN G ≤ q.base) → cells + b ≤ C → slots + 4 * b ≤ 4 * C → lv_has ls M.2.2.1 lv →
    W p l e (jR d C) s m args below meth c H locs cells slots (jMQ G C Q s args below F) (F0 m pc ls st)
/-- q thrown at pc -/
def jTx (M : jM) (l : Launch) (G : jG) (d C : Nat) (Q : jQ) (X : jX) (Φ : List jP) (pc : Nat) (lv : List (Nat × Value)) (st : List Value) (b : Nat) (q : Addr) : Prop := match X with
  | (p, e, s, m, args, below, meth, c, F) => jCx M l G p s m args meth c → ∀ (H : Heap) (locs : List Loc) (cells slots : Nat) (ls : Array Slot), jsat G (Φ ++ F) H → (∀ q ∈ locs, jN G ≤ q.base) → cells + b ≤ C → slots + 4 * b ≤ 4 * C → lv_has ls M.2.2.1 lv →
    jx_W p l e (jR d C) s m args below meth c H locs cells slots (jMQ G C Q s args below F) (F0 m pc ls st) q
section JA
variable {M : jM} {l : Launch} {G : jG} {d C : Nat} {Q : jQ} {X : jX} {Φ Φ' : List jP} {pc : Nat} {lv : List (Nat × Value)} {st : List Value} {b : Nat}
theorem jS_of {y : MethodName} {av : List Value} (hy : plainFor y = true) (hh : M.2.2.2.2.2 = none) (hn : y.name = M.2.2.2.2.1) (hc : y.cls = M.2.1) (ha : (lg_sl av).length ≤ M.2.2.1)
    (h : ∀ X, jT M l G d C Q X Φ 0 (lv_args 0 av) [] C) : jS l G y M d av Φ C Q := by
  intro hst F
  obtain ⟨cc, own, nL, ret, nm, hd⟩ := M
  dsimp only at hh hn hc ha h
  subst hh
  refine jx_ofW (cc := cc) (maxL := nL) (ret := ret) hy rfl ?_
  intro p e s m args below meth c s₁ B hml htab hv
  obtain ⟨rfl, hK, hsat⟩ := hv
  have hts := atoms_spec (ws := ws_ y cc nL ret) B.pre
  have hts : ∀ w ∈ lw_all, w.before _ s = true := fun w h => hts w (List.mem_cons_of_mem _ h)
  have hown : s.vm.findClass own = some m.cls := hc ▸ findClass_of_methodNamed B.named
  have hname : meth.name = nm := hn ▸ (name_of_methodNamed B.named B.method).1
  have htab' : c.exceptionTable.toList = [] := by
    cases h9 : c.exceptionTable.toList with
    | nil => rfl
    | cons x r => exact absurd (htab x (by rw [h9]; exact List.mem_cons_self)) id
  rw [lg_entry_eq]
  have hl := lv_entry av (n := nL) ha
  exact h (p, e, s, m, _, below, meth, c, F) ⟨B.exec, B.bytes, hml, hown, B.returns, B.notSynchronized, hts, hK, htab', hst, hname⟩ s.heap [] 0 0 _ hsat (fun _ q => nomatch q) (by omega) (by omega) hl
theorem jS_ofH {y : MethodName} {av : List Value} {hh : List (Nat × Nat × Nat × Nat)} (hy : plainFor y = true) (hhe : M.2.2.2.2.2 = some hh) (hn : y.name = M.2.2.2.2.1) (hc : y.cls = M.2.1) (ha : (lg_sl av).length ≤ M.2.2.1)
    (h : ∀ X, jT M l G d C Q X Φ 0 (lv_args 0 av) [] C) : jS l G y M d av Φ C Q := by
  intro hst F
  obtain ⟨cc, own, nL, ret, nm, hd⟩ := M
  dsimp only at hhe hn hc ha h
  subst hhe
  refine jx_ofWH (cc := cc) (maxL := nL) (ret := ret) (hh := hh) hy rfl ?_
  intro p e s m args below meth c s₁ B hml hv
  obtain ⟨rfl, hK, hsat⟩ := hv
  have hts := atoms_spec (ws := wsW_ y cc nL ret hh) B.pre
  have htab' : c.exceptionTable.toList = tableOf hh := jx_table (x := y) B (hts _ List.mem_cons_self)
  have hts : ∀ w ∈ lw_all, w.before _ s = true := fun w h => hts w (List.mem_cons_of_mem _ h)
  have hown : s.vm.findClass own = some m.cls := hc ▸ findClass_of_methodNamed B.named
  have hname : meth.name = nm := hn ▸ (name_of_methodNamed B.named B.method).1
  rw [lg_entry_eq]
  have hl := lv_entry av (n := nL) ha
  exact h (p, e, s, m, _, below, meth, c, F) ⟨B.exec, B.bytes, hml, hown, B.returns, B.notSynchronized, hts, hK, htab', hst, hname⟩ s.heap [] 0 0 _ hsat (fun _ q => nomatch q) (by omega) (by omega) hl
/-! structural rules -/
theorem jt_sat (hs : ∀ F H, jsat G (Φ ++ F) H → jsat G (Φ' ++ F) H) (h : jT M l G d C Q X Φ' pc lv st b) : jT M l G d C Q X Φ pc lv st b := by
  obtain ⟨p, e, s, m, args, below, meth, c, F⟩ := X
  exact fun D H locs cells slots ls h1 => h D H locs cells slots ls (hs F H h1)
theorem jt_pick (is : List Nat) (hn : va_nd is = true) (hp : is.map (fun i => Φ[i]?) = Φ'.map some) (h : jT M l G d C Q X Φ' pc lv st b) : jT M l G d C Q X Φ pc lv st b := jt_sat (fun _ _ => jsat_pick is hn hp) h
theorem jt_lv (ks : List Nat) {lv' : List (Nat × Value)} (hl : lv_pick lv ks = lv') (h : jT M l G d C Q X Φ pc lv' st b) : jT M l G d C Q X Φ pc lv st b := by
  obtain ⟨p, e, s, m, args, below, meth, c, F⟩ := X
  exact fun D H locs cells slots ls h1 h2 h3 h4 h5 => h D H locs cells slots ls h1 h2 h3 h4 (lv_sub h5 ks hl)
theorem jt_b {b' : Nat} (hb : b' ≤ b) (h : jT M l G d C Q X Φ pc lv st b') : jT M l G d C Q X Φ pc lv st b := by
  obtain ⟨p, e, s, m, args, below, meth, c, F⟩ := X
  exact fun D H locs cells slots ls h1 h2 h3 h4 h5 => h D H locs cells slots ls h1 h2 (by omega) (by omega) h5
theorem jt_open {X0 : Type} {p : X0 → Prop} {Ψ : X0 → List jP} (h : ∀ x, p x → jT M l G d C Q X (Ψ x ++ Φ) pc lv st b) : jT M l G d C Q X (jbun p Ψ :: Φ) pc lv st b := by
  obtain ⟨p, e, s, m, args, below, meth, c, F⟩ := X
  intro D H locs cells slots ls h1
  obtain ⟨x, hx, hs⟩ := jsat_open (B := Φ ++ F) h1
  exact h x hx D H locs cells slots ls (by rw [List.append_assoc]; exact hs)
theorem jt_close {X0 : Type} {p : X0 → Prop} {Ψ : X0 → List jP} (x : X0) (hx : p x) (h : jT M l G d C Q X (jbun p Ψ :: Φ) pc lv st b) : jT M l G d C Q X (Ψ x ++ Φ) pc lv st b :=
  jt_sat (Φ' := jbun p Ψ :: Φ) (fun F H h1 => show jsat G (jbun p Ψ :: (Φ ++ F)) H from jsat_close x hx (by rw [← List.append_assoc]; exact h1)) h
theorem jt_ent {A A' : List jP} (he : ∀ h, jsl A h → ∃ h', (∀ a c, h' a c → h a c) ∧ jsl A' h') (h : jT M l G d C Q X (A' ++ Φ) pc lv st b) : jT M l G d C Q X (A ++ Φ) pc lv st b :=
  jt_sat (fun F H h1 => by rw [List.append_assoc] at h1 ⊢; exact jsat_ent he h1) h
theorem jt_dup {P : jP} (i : Nat) (hi : Φ[i]? = some P) (hp : jpers P) (h : jT M l G d C Q X (P :: Φ) pc lv st b) : jT M l G d C Q X Φ pc lv st b :=
  jt_sat (Φ' := P :: Φ) (fun F H h1 => jsat_dup (A := Φ ++ F) (by rw [List.getElem?_append_left (jlt hi)]; exact hi) hp h1) h
theorem jt_old {a : Nat} {o : jO} (ho : jold G a o) (h : jT M l G d C Q X (jA true a o :: Φ) pc lv st b) : jT M l G d C Q X Φ pc lv st b :=
  jt_sat (Φ' := jA true a o :: Φ) (fun F H h1 => jsat_old ho h1) h
theorem jt_class (i : Nat) {f : Bool} {a : Nat} {o o' : jO} (hi : Φ[i]? = some (jA f a o)) (ho : jclo o = o') (h : jT M l G d C Q X (jA true a o' :: Φ) pc lv st b) : jT M l G d C Q X Φ pc lv st b := by
  subst ho
  exact jt_sat (Φ' := jA true a (jclo o) :: Φ) (fun F H h1 => jsat_class (A := Φ ++ F) (by rw [List.getElem?_append_left (jlt hi)]; exact hi) h1) h
theorem jt_freeze (i : Nat) {a : Nat} {o : jO} (hi : Φ[i]? = some (jA false a o)) (hΦ : Φ.set i (jA true a o) = Φ') (h : jT M l G d C Q X Φ' pc lv st b) : jT M l G d C Q X Φ pc lv st b := by
  subst hΦ
  refine jt_sat (fun F H h1 => ?_) h
  have := jsat_freeze (A := Φ ++ F) (by rw [List.getElem?_append_left (jlt hi)]; exact hi) h1
  rwa [List.set_append_left _ _ (jlt hi)] at this
theorem jt_pure {P : jP} {z : Prop} (i : Nat) (hi : Φ[i]? = some P) (hz : ∀ h, P h → z) (h : z → jT M l G d C Q X Φ pc lv st b) : jT M l G d C Q X Φ pc lv st b := by
  obtain ⟨p, e, s, m, args, below, meth, c, F⟩ := X
  intro D H locs cells slots ls h1
  exact h (jsat_pure (A := Φ ++ F) (by rw [List.getElem?_append_left (jlt hi)]; exact hi) hz h1) D H locs cells slots ls h1
theorem jt_eq {st' : List Value} {lv' : List (Nat × Value)} (h1 : st = st') (h2 : lv = lv') (h : jT M l G d C Q X Φ pc lv' st' b) : jT M l G d C Q X Φ pc lv st b := by rw [h1, h2]; exact h
end JA
/-! ends -/
section JE
variable {M : jM} {l : Launch} {G : jG} {d C : Nat} {Q : jQ} {X : jX} {Φ Φ' : List jP} {pc : Nat} {lv : List (Nat × Value)} {st : List Value} {b : Nat}
theorem jr_vret {Ψ : List jP} (hd : decode M.1 pc = .ok (.return_, 1)) (hr : M.2.2.2.1 = none) (hQ : Q (.returned none) Ψ) (hs : ∀ F H, jsat G (Φ ++ F) H → jsat G (Ψ ++ F) H) : jT M l G d C Q X Φ pc lv [] b := by
  obtain ⟨p, e, s, m, args, below, meth, c, F⟩ := X
  intro D H locs cells slots ls h1 h2 h3 h4 h5
  refine W.widen (k := C) (n := 4 * C) (by omega) (by omega) ?_
  exact jx_ret (W.vret D.1 D.2.1 (D.2.2.2.2.1.trans hr) (fun t ht hW => ⟨Ψ, hQ, by rw [ht]; exact hs F H h1⟩) h2 hd D.2.2.2.2.2.1)
theorem jr_zret {Ψ : List jP} {v : Int32} {ty : FieldType} (hd : decode M.1 pc = .ok (.ireturn, 1)) (hr : M.2.2.2.1 = some ty) (hn : narrow ty (.int v) = .int v) (hQ : Q (.returned (some (.int v))) Ψ) (hs : ∀ F H, jsat G (Φ ++ F) H → jsat G (Ψ ++ F) H) : jT M l G d C Q X Φ pc lv [.int v] b := by
  obtain ⟨p, e, s, m, args, below, meth, c, F⟩ := X
  intro D H locs cells slots ls h1 h2 h3 h4 h5
  refine W.widen (k := C) (n := 4 * C) (by omega) (by omega) ?_
  exact jx_ret (W.zret D.1 D.2.1 (D.2.2.2.2.1.trans hr) hn (fun t ht hW => ⟨Ψ, hQ, by rw [ht]; exact hs F H h1⟩) h2 hd D.2.2.2.2.2.1)
theorem jr_lret {Ψ : List jP} {v : Int64} (hd : decode M.1 pc = .ok (.lreturn, 1)) (hr : M.2.2.2.1 = some .long) (hQ : Q (.returned (some (.long v))) Ψ) (hs : ∀ F H, jsat G (Φ ++ F) H → jsat G (Ψ ++ F) H) : jT M l G d C Q X Φ pc lv [.long v] b := by
  obtain ⟨p, e, s, m, args, below, meth, c, F⟩ := X
  intro D H locs cells slots ls h1 h2 h3 h4 h5
  refine W.widen (k := C) (n := 4 * C) (by omega) (by omega) ?_
  exact jx_ret (W.lret D.1 D.2.1 (D.2.2.2.2.1.trans hr) (fun t ht hW => ⟨Ψ, hQ, by rw [ht]; exact hs F H h1⟩) h2 hd D.2.2.2.2.2.1)
theorem jr_fret {Ψ : List jP} {v : UInt32} (hd : decode M.1 pc = .ok (.freturn, 1)) (hr : M.2.2.2.1 = some .float) (hQ : Q (.returned (some (.float v))) Ψ) (hs : ∀ F H, jsat G (Φ ++ F) H → jsat G (Ψ ++ F) H) : jT M l G d C Q X Φ pc lv [.float v] b := by
  obtain ⟨p, e, s, m, args, below, meth, c, F⟩ := X
  intro D H locs cells slots ls h1 h2 h3 h4 h5
  have hlocks := D.2.2.2.2.2.1
  refine W.widen (k := C) (n := 4 * C) (by omega) (by omega) ?_
  exact jx_ret (W.fret D.1 D.2.1 (D.2.2.2.2.1.trans hr) (fun t ht hW => ⟨Ψ, hQ, by rw [ht]; exact hs F H h1⟩) h2 hd)
theorem jr_dret {Ψ : List jP} {v : UInt64} (hd : decode M.1 pc = .ok (.dreturn, 1)) (hr : M.2.2.2.1 = some .double) (hQ : Q (.returned (some (.double v))) Ψ) (hs : ∀ F H, jsat G (Φ ++ F) H → jsat G (Ψ ++ F) H) : jT M l G d C Q X Φ pc lv [.double v] b := by
  obtain ⟨p, e, s, m, args, below, meth, c, F⟩ := X
  intro D H locs cells slots ls h1 h2 h3 h4 h5
  have hlocks := D.2.2.2.2.2.1
  refine W.widen (k := C) (n := 4 * C) (by omega) (by omega) ?_
  exact jx_ret (W.dret D.1 D.2.1 (D.2.2.2.2.1.trans hr) (fun t ht hW => ⟨Ψ, hQ, by rw [ht]; exact hs F H h1⟩) h2 hd)
theorem jr_aret {Ψ : List jP} {v : Value} {rt : FieldType} (hd : decode M.1 pc = .ok (.areturn, 1)) (hr : M.2.2.2.1 = some rt) (hrt : (∃ n, rt = .object n) ∨ ∃ t, rt = .array t) (hv : v = .null ∨ ∃ a, v = .ref a) (hQ : Q (.returned (some v)) Ψ) (hs : ∀ F H, jsat G (Φ ++ F) H → jsat G (Ψ ++ F) H) : jT M l G d C Q X Φ pc lv [v] b := by
  obtain ⟨p, e, s, m, args, below, meth, c, F⟩ := X
  intro D H locs cells slots ls h1 h2 h3 h4 h5
  refine W.widen (k := C) (n := 4 * C) (by omega) (by omega) ?_
  exact jx_ret (W.aret D.1 D.2.1 (D.2.2.2.2.1.trans hr) hrt hv (fun t ht hW => ⟨Ψ, hQ, by rw [ht]; exact hs F H h1⟩) h2 hd D.2.2.2.2.2.1)
/-- the atoms of an end, by their places -/
theorem js_pick (is : List Nat) (hn : va_nd is = true) (hp : is.map (fun i => Φ[i]?) = Φ'.map some) : ∀ F H, jsat G (Φ ++ F) H → jsat G (Φ' ++ F) H := fun _ _ => jsat_pick is hn hp
theorem js_rf : ∀ F H, jsat G (Φ ++ F) H → jsat G (Φ ++ F) H := fun _ _ h => h
/-- thrown out of the method: no row of its table covers pc, or its class isn't the thrown one's -/
theorem jx_leave {Ψ : List jP} {q k : Nat} {fs : List Value} {f : Bool} {E : vw_C} (i : Nat) (hi : Φ[i]? = some (jA f q ((0, k), fs))) (hE : jcl[k]? = some E) (hpass : ∀ z ∈ jtable M, covers z pc = false ∨ (z.catchType ≠ 0 ∧ ∃ nm : String, Cond.classLink M.2.1 z.catchType nm ∈ lw_all ∧ (E.1, nm) ∈ jnc)) (hQ : Q (.threw q) Ψ) (hs : ∀ F H, jsat G (Φ ++ F) H → jsat G (Ψ ++ F) H) : jTx M l G d C Q X Φ pc lv st b q := by
  obtain ⟨p, e, s, m, args, below, meth, c, F⟩ := X
  intro D H locs cells slots ls h1 h2 h3 h4 h5
  obtain ⟨hx, hb, hml, hown, hr, hlk, hts, hK, htab, hst, hnm⟩ := D
  obtain ⟨-, cell, g1, g2⟩ := jsat_get (i := i) (by rw [List.getElem?_append_left (jlt hi)]; exact hi) h1
  obtain ⟨g3, -, r, g4, g5, -⟩ := g2
  have : r = E := Option.some.inj (g4.symm.trans hE)
  subst this
  have hcl : s.vm.findClass r.1 = some cell.cls := by rw [g5]; exact (hK.cl.1 k _ hE).2.1
  refine jx_outP hown hlk (fun z hz => ?_) g1 g3 hcl (fun t ht hvm => ⟨Ψ, hQ, by rw [ht]; exact hs F H h1⟩) h2 (by omega) (by omega)
  rcases hpass z (htab ▸ hz) with h | ⟨h6, nm, h7, h8⟩
  · exact Or.inl h
  · exact Or.inr ⟨h6, nm, hts _ h7, hK.nc _ h8⟩
/-- caught by a row of the method's own table -/
theorem jx_caught {q k : Nat} {fs : List Value} {f : Bool} {E : vw_C} {name : String} (i : Nat) (hi : Φ[i]? = some (jA f q ((0, k), fs))) (hE : jcl[k]? = some E) (pre : List ExceptionTableEntry) (x : ExceptionTableEntry) (suf : List ExceptionTableEntry) (hsplit : jtable M = pre ++ x :: suf)
    (hpass : ∀ z ∈ pre, covers z pc = false ∨ (z.catchType ≠ 0 ∧ ∃ nm : String, Cond.classLink M.2.1 z.catchType nm ∈ lw_all ∧ (E.1, nm) ∈ jnc)) (hx : covers x pc = true) (h0 : x.catchType ≠ 0) (hlink : Cond.classLink M.2.1 x.catchType name ∈ lw_all) (hcast : (E.1, name) ∈ jca)
    (h : jT M l G d C Q X Φ x.handlerPc lv [.ref q] b) : jTx M l G d C Q X Φ pc lv st b q := by
  obtain ⟨p, e, s, m, args, below, meth, c, F⟩ := X
  intro D H locs cells slots ls h1 h2 h3 h4 h5
  have D0 := D
  obtain ⟨hx1, hb, hml, hown, hr, hlk, hts, hK, htab, hst, hnm⟩ := D
  obtain ⟨-, cell, g1, g2⟩ := jsat_get (i := i) (by rw [List.getElem?_append_left (jlt hi)]; exact hi) h1
  obtain ⟨g3, -, r, g4, g5, -⟩ := g2
  have : r = E := Option.some.inj (g4.symm.trans hE)
  subst this
  have hcl : s.vm.findClass r.1 = some cell.cls := by rw [g5]; exact (hK.cl.1 k _ hE).2.1
  refine jx_catch hown pre x suf (htab.trans hsplit) (fun z hz => ?_) hx h0 (hts _ hlink) (va_Nw.use rfl (hK.ca _ hcast)) g1 g3 hcl (h D0 H locs cells slots ls h1 h2 h3 h4 h5)
  rcases hpass z hz with h | ⟨h6, nm, h7, h8⟩
  · exact Or.inl h
  · exact Or.inr ⟨h6, nm, hts _ h7, hK.nc _ h8⟩
end JE
