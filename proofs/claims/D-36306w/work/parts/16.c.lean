/-! the immutable lists as one kind -/
set_option maxRecDepth 100000
def IL (G : jG) (a : Nat) (vs : List Nat) : jP := fun h => (∃ x, vs = [x] ∧ IL1 G a x h) ∨ (∃ x y, vs = [x, y] ∧ IL2 G a x y h) ∨ ILN a vs h
theorem jpers_IL {G : jG} {a : Nat} {vs : List Nat} : jpers (IL G a vs) := by
  rintro h (⟨x, -, hh⟩ | ⟨x, y, -, hh⟩ | hh)
  · exact jpers_IL1 h hh
  · exact jpers_IL2 h hh
  · exact jpers_ILN h hh
section JIL
variable {M : jM} {l : Launch} {G : jG} {d C : Nat} {Q : jQ} {X : jX} {Φ Φ' : List jP} {pc : Nat} {lv : List (Nat × Value)} {st : List Value} {b : Nat}
theorem jt_or {P A B : jP} (i : Nat) (hi : Φ[i]? = some P) (hp : jpers P) (hP : ∀ h, P h → A h ∨ B h) (ha : jT M l G d C Q X (A :: Φ) pc lv st b) (hb : jT M l G d C Q X (B :: Φ) pc lv st b) : jT M l G d C Q X Φ pc lv st b :=
  jt_altP (ι := Bool) (A := fun x => if x then A else B) (p := fun _ => True) i hi hp (fun h hh => (hP h hh).elim (fun q => ⟨true, trivial, q⟩) (fun q => ⟨false, trivial, q⟩)) (fun x _ => match x with
    | true => ha
    | false => hb)
theorem jt_ex {α : Type} {P : jP} {A : α → jP} {p : α → Prop} (i : Nat) (hi : Φ[i]? = some P) (hp : jpers P) (hP : ∀ h, P h → ∃ x, p x ∧ A x h) (hk : ∀ x, p x → jT M l G d C Q X (A x :: Φ) pc lv st b) : jT M l G d C Q X Φ pc lv st b := jt_altP i hi hp hP hk
theorem jt_IL {a : Nat} {vs : List Nat} (i : Nat) (hi : Φ[i]? = some (IL G a vs)) (h1 : ∀ x, vs = [x] → jT M l G d C Q X (IL1 G a x :: Φ) pc lv st b) (h2 : ∀ x y, vs = [x, y] → jT M l G d C Q X (IL2 G a x y :: Φ) pc lv st b) (h3 : jT M l G d C Q X (ILN a vs :: Φ) pc lv st b) : jT M l G d C Q X Φ pc lv st b := by
  refine jt_altP (ι := Option (Nat × Option Nat)) (A := fun z => match z with
    | none => ILN a vs
    | some (x, none) => IL1 G a x
    | some (x, some y) => IL2 G a x y) (p := fun z => match z with
    | none => True
    | some (x, none) => vs = [x]
    | some (x, some y) => vs = [x, y]) i hi jpers_IL (fun h hh => ?_) (fun z hz => ?_)
  · rcases hh with ⟨x, e, q⟩ | ⟨x, y, e, q⟩ | q
    · exact ⟨some (x, none), e, q⟩
    · exact ⟨some (x, some y), e, q⟩
    · exact ⟨none, trivial, q⟩
  · match z, hz with
    | none, _ => exact h3
    | some (x, none), e => exact h1 x e
    | some (x, some y), e => exact h2 x y e
end JIL
