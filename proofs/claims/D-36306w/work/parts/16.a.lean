/-! more structural rules: joins, cases of an atom, one of a list of own things, constants' texts, longs by their numbers -/
set_option maxRecDepth 100000
section JX1
variable {M : jM} {l : Launch} {G : jG} {d C : Nat} {Q : jQ} {X : jX} {Φ Φ' : List jP} {pc : Nat} {lv : List (Nat × Value)} {st : List Value} {b : Nat}
/-- the rest of a walk from a place on, proved once; branches come to it -/
theorem jt_join {α : Type} (p : α → Prop) (Φ' : α → List jP) (pc' : Nat) (lv' : α → List (Nat × Value)) (st' : α → List Value) (c : Nat) (hbr : (∀ x, p x → jT M l G d C Q X (Φ' x) pc' (lv' x) (st' x) (b - c)) → jT M l G d C Q X Φ pc lv st b) (hk : ∀ x, p x → jT M l G d C Q X (Φ' x) pc' (lv' x) (st' x) (b - c)) : jT M l G d C Q X Φ pc lv st b := hbr hk
theorem jsl_app {A B : List jP} {h : jH} (hh : jsl (A ++ B) h) : ∃ h1 h2, jsl A h1 ∧ jsl B h2 ∧ (∀ a c, h1 a c ∨ h2 a c → h a c) ∧ ∀ a c d, h1 a c → h2 a d → jcp c d := by
  obtain ⟨w, hw, rfl⟩ := hh
  refine ⟨jun A.length w, jun B.length (fun i => w (i + A.length)), ⟨w, ⟨fun i P e => hw.1 i P (by rw [List.getElem?_append_left (jlt e)]; exact e), fun i j a c d hi hj hne h1 h2 => hw.2 i j a c d (by rw [List.length_append]; omega) (by rw [List.length_append]; omega) hne h1 h2⟩, rfl⟩, ⟨_, ⟨fun i P e => hw.1 (i + A.length) P (by rw [List.getElem?_append_right (by omega), Nat.add_sub_cancel]; exact e), fun i j a c d hi hj hne h1 h2 => hw.2 _ _ a c d (by rw [List.length_append]; omega) (by rw [List.length_append]; omega) (by omega) h1 h2⟩, rfl⟩, ?_, ?_⟩
  · rintro a c (⟨i, hi, h1⟩ | ⟨i, hi, h1⟩)
    · exact ⟨i, by rw [List.length_append]; omega, h1⟩
    · exact ⟨i + A.length, by rw [List.length_append]; omega, h1⟩
  · rintro a c d ⟨i, hi, h1⟩ ⟨j, hj, h2⟩
    exact hw.2 i (j + A.length) a c d (by rw [List.length_append]; omega) (by rw [List.length_append]; omega) (by omega) h1 h2
theorem jsl_mk {A B : List jP} {h1 h2 : jH} (ha : jsl A h1) (hb : jsl B h2) (hx : ∀ a c d, h1 a c → h2 a d → jcp c d) : jsl (A ++ B) (fun a c => h1 a c ∨ h2 a c) := by
  obtain ⟨w, hw, rfl⟩ := ha
  obtain ⟨v, hv, rfl⟩ := hb
  refine ⟨_, jfam_app hw hv (fun i j a c d hi hj q1 q2 => hx a c d ⟨i, hi, q1⟩ ⟨j, hj, q2⟩), ?_⟩
  funext a c
  apply propext
  constructor
  · rintro (⟨i, hi, q⟩ | ⟨i, hi, q⟩)
    · exact ⟨i, by rw [List.length_append]; omega, by simp only [hi, if_true]; exact q⟩
    · refine ⟨i + A.length, by rw [List.length_append]; omega, ?_⟩
      have : ¬ i + A.length < A.length := by omega
      simp only [this, if_false, Nat.add_sub_cancel]; exact q
  · rintro ⟨i, hi, q⟩
    rw [List.length_append] at hi
    by_cases z : i < A.length <;> simp only [z, if_true, if_false] at q
    · exact Or.inl ⟨i, z, q⟩
    · exact Or.inr ⟨i - A.length, by omega, q⟩
section JX2
variable {α : Type} {P : α → jP}
theorem jPs_out {l1 l2 : List α} {x : α} {h : jH} (hh : jPs P (l1 ++ x :: l2) h) : ∃ h', (∀ a c, h' a c → h a c) ∧ jsl [P x, jPs P (l1 ++ l2)] h' := by
  unfold jPs at hh
  rw [List.map_append, List.map_cons] at hh
  obtain ⟨h1, h2, q1, q2, q3, q4⟩ := jsl_app hh
  obtain ⟨h3, h4, r1, r2, r3, r4⟩ := jsl_app (A := [P x]) q2
  have e1 := jsl_mk q1 r2 (fun a c d z1 z2 => q4 a c d z1 (r3 a d (Or.inr z2)))
  have e3 : jPs P (l1 ++ l2) (fun a c => h1 a c ∨ h4 a c) := by unfold jPs; rw [List.map_append]; exact e1
  have e2 := jsl_mk (A := [P x]) (B := [jPs P (l1 ++ l2)]) r1 (jsl_one.mpr e3) (fun a c d z1 z2 => Or.elim z2 (fun z => (q4 a d c z (r3 a c (Or.inl z1))).symm) (fun z => r4 a c d z1 z))
  refine ⟨_, ?_, e2⟩
  rintro a c (z | z | z)
  · exact q3 a c (Or.inr (r3 a c (Or.inl z)))
  · exact q3 a c (Or.inl z)
  · exact q3 a c (Or.inr (r3 a c (Or.inr z)))
theorem jPs_in {l1 l2 : List α} {x : α} {h : jH} (hh : jsl [P x, jPs P (l1 ++ l2)] h) : ∃ h', (∀ a c, h' a c → h a c) ∧ jPs P (l1 ++ x :: l2) h' := by
  obtain ⟨h1, h2, q1, q2, q3, q4⟩ := jsl_app (A := [P x]) (B := [jPs P (l1 ++ l2)]) hh
  have q2 := jsl_one.mp q2
  unfold jPs at q2
  rw [List.map_append] at q2
  obtain ⟨h3, h4, r1, r2, r3, r4⟩ := jsl_app q2
  have e1 := jsl_mk (A := [P x]) q1 r2 (fun a c d z1 z2 => q4 a c d z1 (r3 a d (Or.inr z2)))
  have e2 := jsl_mk r1 e1 (fun a c d z1 z2 => z2.elim (fun z => (q4 a d c z (r3 a c (Or.inl z1))).symm) (fun z => r4 a c d z1 z))
  refine ⟨_, ?_, by unfold jPs; rw [List.map_append, List.map_cons]; exact e2⟩
  rintro a c (z | z | z)
  · exact q3 a c (Or.inr (r3 a c (Or.inl z)))
  · exact q3 a c (Or.inl z)
  · exact q3 a c (Or.inr (r3 a c (Or.inr z)))
/-- one of a list of own things, taken out, and put back -/
theorem jt_out {ps : List α} {x : α} (n : Nat) (hx : ps[n]? = some x) (h : jT M l G d C Q X (P x :: jPs P (ps.take n ++ ps.drop (n + 1)) :: Φ) pc lv st b) : jT M l G d C Q X (jPs P ps :: Φ) pc lv st b := by
  have e : ps = ps.take n ++ x :: ps.drop (n + 1) := by
    obtain ⟨hl, he⟩ := List.getElem?_eq_some_iff.mp hx
    rw [← he, List.getElem_cons_drop, List.take_append_drop]
  exact jt_ent (A := [jPs P ps]) (A' := [P x, jPs P (ps.take n ++ ps.drop (n + 1))]) (fun h0 hh => by
    have hh := jsl_one.mp hh
    rw [e] at hh
    exact jPs_out hh) h
theorem jt_in {ps qs : List α} {x : α} (n : Nat) (hn : n < ps.length) (hq : qs = ps.set n x) (h : jT M l G d C Q X (jPs P qs :: Φ) pc lv st b) : jT M l G d C Q X (P x :: jPs P (ps.take n ++ ps.drop (n + 1)) :: Φ) pc lv st b := by
  have e : qs = ps.take n ++ x :: ps.drop (n + 1) := by rw [hq, List.set_eq_take_append_cons_drop, if_pos hn]
  exact jt_ent (A := [P x, jPs P (ps.take n ++ ps.drop (n + 1))]) (A' := [jPs P qs]) (fun h0 hh => by
    obtain ⟨h', h1, h2⟩ := jPs_in hh
    exact ⟨h', h1, jsl_one.mpr (by rw [e]; exact h2)⟩) h
/-- a new one at the end -/
theorem jt_push {ps : List α} {x : α} (h : jT M l G d C Q X (jPs P (ps ++ [x]) :: Φ) pc lv st b) : jT M l G d C Q X (P x :: jPs P ps :: Φ) pc lv st b :=
  jt_ent (A := [P x, jPs P ps]) (A' := [jPs P (ps ++ [x])]) (fun h0 hh => by
    have hh : jsl [P x, jPs P (ps ++ [])] h0 := by rw [List.append_nil]; exact hh
    obtain ⟨h', h1, h2⟩ := jPs_in hh
    exact ⟨h', h1, jsl_one.mpr h2⟩) h
end JX2
/-- a frozen atom that is one of several -/
theorem jt_altP {P : jP} {ι : Type} {A : ι → jP} {p : ι → Prop} (i : Nat) (hi : Φ[i]? = some P) (hp : jpers P) (hP : ∀ h, P h → ∃ x, p x ∧ A x h) (hk : ∀ x, p x → jT M l G d C Q X (A x :: Φ) pc lv st b) : jT M l G d C Q X Φ pc lv st b := by
  refine jt_dup i hi hp ?_
  obtain ⟨p, e, s, m, args, below, meth, c, F⟩ := X
  intro D H locs cells slots ls h1
  obtain ⟨hb, w, hw, hc⟩ := h1
  obtain ⟨x, hx, hA⟩ := hP _ (hw.1 0 P rfl)
  refine hk x hx D H locs cells slots ls ⟨hb, w, ⟨fun j R e => ?_, hw.2⟩, hc⟩
  cases j with
  | zero => cases e; exact hA
  | succ j => exact hw.1 (j + 1) R e
/-- a constant's text -/
theorem jt_konst (k : Nat) (bs : List Nat) (hk : jkb[k]? = some bs) (hb : ∀ c ∈ bs, c < 128) (hl : bs.length ≤ 1000) (h : jT M l G d C Q X (jLs (jKA G k) bs :: Φ) pc lv st b) : jT M l G d C Q X Φ pc lv st b := by
  refine jr_g0 (fun hg0 => ?_)
  obtain ⟨-, -, -, -, -, -, -, gks⟩ := hg0
  obtain ⟨v, h1, h2⟩ := gks k bs hk
  have e : bs.map (fun x => Value.int (Int32.ofNat x)) = lb bs := by
    unfold lb
    refine List.map_congr_left (fun c hc => ?_)
    have := hb c hc
    unfold sb iI
    rw [if_pos this, Int32.ofInt_eq_ofNat]
  rw [e] at h2
  refine jt_old h2 ?_
  refine jt_old h1 ?_
  exact jt_fold (A := [im (jKA G k) 2 [.ref v, .int 0], ia v 0 (lb bs)]) (P := jLs (jKA G k) bs) (jLs_fold (z := 0) (fun c hc => by have := hb c hc; omega) (by omega) rfl rfl) h
/-- longs by their numbers -/
def lI (z : Int) : Int64 := Int64.ofInt z
theorem lI_toInt {z : Int} (h : -9223372036854775808 ≤ z ∧ z ≤ 9223372036854775807) : (lI z).toInt = z := Int64.toInt_ofInt_of_le (by omega) (by omega)
theorem lI_of {x : Int} (h : -2147483648 ≤ x ∧ x ≤ 2147483647) : (iI x).toInt64 = lI x := by
  apply Int64.toInt_inj.mp
  rw [Int32.toInt_toInt64, iI_toInt h, lI_toInt (by omega)]
theorem ji_i2l {x : Int} (h : -2147483648 ≤ x ∧ x ≤ 2147483647) (hdg : decode M.1 pc = .ok (.i2l, 1)) (k : jT M l G d C Q X Φ (pc + 1) lv (.long (lI x) :: st) b) : jT M l G d C Q X Φ pc lv (.int (iI x) :: st) b := jlv_i2l hdg (lI_of h) k
theorem lI_lt {x y : Int} (hx : -9223372036854775808 ≤ x ∧ x ≤ 9223372036854775807) (hy : -9223372036854775808 ≤ y ∧ y ≤ 9223372036854775807) : lI x < lI y ↔ x < y := by
  rw [Int64.lt_iff_toInt_lt, lI_toInt hx, lI_toInt hy]
theorem lI_cmp_lt {x y : Int} (hx : -9223372036854775808 ≤ x ∧ x ≤ 9223372036854775807) (hy : -9223372036854775808 ≤ y ∧ y ≤ 9223372036854775807) : (lg_cmp (lI x) (lI y) < 0 ↔ x < y) ∧ (0 < lg_cmp (lI x) (lI y) ↔ y < x) := by
  unfold lg_cmp
  have h1 := lI_lt hy hx
  have h3 : lI x = lI y ↔ x = y := ⟨fun q => by rw [← lI_toInt hx, ← lI_toInt hy, q], fun q => by rw [q]⟩
  simp only [gt_iff_lt]
  by_cases a : y < x
  · rw [if_pos (h1.mpr a)]
    exact ⟨⟨fun q => absurd q (by decide), fun q => by omega⟩, ⟨fun _ => a, fun _ => by decide⟩⟩
  · rw [if_neg (fun q => a (h1.mp q))]
    by_cases e : x = y
    · rw [if_pos (h3.mpr e)]
      exact ⟨⟨fun q => absurd q (by decide), fun q => by omega⟩, ⟨fun q => absurd q (by decide), fun q => by omega⟩⟩
    · rw [if_neg (fun q => e (h3.mp q))]
      exact ⟨⟨fun _ => by omega, fun _ => by decide⟩, ⟨fun q => absurd q (by decide), fun q => by omega⟩⟩
theorem ji_lcmp_lt {x y : Int} {off : Int} (tgt : Nat) (hx : -9223372036854775808 ≤ x ∧ x ≤ 9223372036854775807) (hy : -9223372036854775808 ≤ y ∧ y ≤ 9223372036854775807) (hdg : decode M.1 pc = .ok (.lcmp, 1)) (hdg2 : decode M.1 (pc + 1) = .ok (.ifCond .lt off, 3)) (ht : ((pc + 1 : Nat) : Int) + off = (tgt : Int)) (kt : x < y → jT M l G d C Q X Φ tgt lv st b) (kf : y ≤ x → jT M l G d C Q X Φ (pc + 4) lv st b) : jT M l G d C Q X Φ pc lv (.long (lI y) :: .long (lI x) :: st) b := by
  refine jW.lcmp (cc := M.1) (ls := #[]) (rest := st) hdg ?_
  exact jlv_if_lt hdg2 ht (fun q => kt ((lI_cmp_lt hx hy).1.mp q)) (fun q => kf (Int.not_lt.mp fun z => q ((lI_cmp_lt hx hy).1.mpr z)))
theorem ji_lcmp_gt {x y : Int} {off : Int} (tgt : Nat) (hx : -9223372036854775808 ≤ x ∧ x ≤ 9223372036854775807) (hy : -9223372036854775808 ≤ y ∧ y ≤ 9223372036854775807) (hdg : decode M.1 pc = .ok (.lcmp, 1)) (hdg2 : decode M.1 (pc + 1) = .ok (.ifCond .gt off, 3)) (ht : ((pc + 1 : Nat) : Int) + off = (tgt : Int)) (kt : y < x → jT M l G d C Q X Φ tgt lv st b) (kf : x ≤ y → jT M l G d C Q X Φ (pc + 4) lv st b) : jT M l G d C Q X Φ pc lv (.long (lI y) :: .long (lI x) :: st) b := by
  refine jW.lcmp (cc := M.1) (ls := #[]) (rest := st) hdg ?_
  exact jlv_if_gt hdg2 ht (fun q => kt ((lI_cmp_lt hx hy).2.mp q)) (fun q => kf (Int.not_lt.mp fun z => q ((lI_cmp_lt hx hy).2.mpr z)))
end JX1
