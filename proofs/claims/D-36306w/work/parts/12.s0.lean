set_option maxRecDepth 100000
theorem arrV_inj {c : ClassId} {n m : Nat} {f g : Nat → Value} (h : arrV c n f = arrV c m g) : n = m ∧ ∀ j, j < n → f j = g j := by
  have h1 : (Array.ofFn (n := n) fun j => f j.val) = Array.ofFn (n := m) fun j => g j.val := congrArg Cell.slots h
  have h2 : n = m := by
    have := congrArg Array.size h1
    simpa using this
  refine ⟨h2, fun j hj => ?_⟩
  have := congrArg (fun x : Array Value => x[j]?) h1
  simpa [hj, h2 ▸ hj] using this
theorem jagreeA {G : jG} {A : List jP} {H : Heap} {i j a k : Nat} {f g : Bool} {vs ws : List Value} (hi : A[i]? = some (jA f a ((1, k), vs))) (hj : A[j]? = some (jA g a ((1, k), ws))) (h : jsat G A H) : vs = ws := by
  obtain ⟨-, c1, g1, m1⟩ := jsat_get hi h
  obtain ⟨-, c2, g2, m2⟩ := jsat_get hj h
  rw [g1] at g2; cases g2
  have e : arrV (jAid G k) vs.length (fun j => vs.getD j .null) = arrV (jAid G k) ws.length (fun j => ws.getD j .null) := (show c1 = _ from m1).symm.trans (show c1 = _ from m2)
  obtain ⟨e1, e2⟩ := arrV_inj e
  apply List.ext_getElem e1
  intro n h1 h2
  have := e2 n h1
  simpa [List.getD, h1, h2] using this
theorem jagreeO {G : jG} {A : List jP} {H : Heap} {i j a k : Nat} {f g : Bool} {vs ws : List Value} (hi : A[i]? = some (jA f a ((0, k), vs))) (hj : A[j]? = some (jA g a ((0, k), ws))) (h : jsat G A H) : ∀ (n : Nat) (v w : Value), vs[n]? = some v → ws[n]? = some w → v = w := by
  obtain ⟨-, c1, g1, m1⟩ := jsat_get hi h
  obtain ⟨-, c2, g2, m2⟩ := jsat_get hj h
  rw [g1] at g2; cases g2
  obtain ⟨-, -, r, -, -, e1⟩ := m1
  obtain ⟨-, -, r2, -, -, e2⟩ := m2
  intro n v w q1 q2
  have := (e1 n v q1).2.symm.trans (e2 n w q2).2
  injection this
theorem jt_fact {M : jM} {l : Launch} {G : jG} {d C : Nat} {Q : jQ} {X : jX} {Φ : List jP} {pc : Nat} {lv : List (Nat × Value)} {st : List Value} {b : Nat} {z : Prop} (hz : ∀ F H, jsat G (Φ ++ F) H → z) (h : z → jT M l G d C Q X Φ pc lv st b) : jT M l G d C Q X Φ pc lv st b := by
  obtain ⟨p, e, s, m, args, below, meth, c, F⟩ := X
  intro D H locs cells slots ls h1
  exact h (hz F H h1) D H locs cells slots ls h1
theorem jap {A F : List jP} {i : Nat} {P : jP} (h : A[i]? = some P) : (A ++ F)[i]? = some P := by rw [List.getElem?_append_left (jlt h)]; exact h
/-- two own cells are two -/
theorem jt_ne {M : jM} {l : Launch} {G : jG} {d C : Nat} {Q : jQ} {X : jX} {Φ : List jP} {pc : Nat} {lv : List (Nat × Value)} {st : List Value} {b : Nat} (i j : Nat) {a c : Nat} {o q : jO} (hij : (i == j) = false) (hi : Φ[i]? = some (jA false a o)) (hj : Φ[j]? = some (jA false c q)) (h : a ≠ c → jT M l G d C Q X Φ pc lv st b) : jT M l G d C Q X Φ pc lv st b := by
  refine jt_fact (z := a ≠ c) (fun F H hs => ?_) h
  obtain ⟨-, w, hw, -⟩ := hs
  have h1 : w i = jone a false o := hw.1 i _ (jap hi)
  have h2 : w j = jone c false q := hw.1 j _ (jap hj)
  rintro rfl
  have := hw.2 i j a (false, o) (false, q) (jlt (jap hi)) (jlt (jap hj)) (by simpa using hij) (by rw [h1]; exact ⟨rfl, rfl⟩) (by rw [h2]; exact ⟨rfl, rfl⟩)
  rcases this with z | z | z
  · cases z.1
  · cases z.1
  · cases z.1
/-- an own cell isn't a frozen one -/
theorem jt_nef {M : jM} {l : Launch} {G : jG} {d C : Nat} {Q : jQ} {X : jX} {Φ : List jP} {pc : Nat} {lv : List (Nat × Value)} {st : List Value} {b : Nat} (i j : Nat) {a c k k' : Nat} {q : jO} {v : Value} {vs : List Value} (hij : (i == j) = false) (hi : Φ[i]? = some (jA false a q)) (hj : Φ[j]? = some (jA true c ((0, k'), v :: vs))) (h : a ≠ c → jT M l G d C Q X Φ pc lv st b) : jT M l G d C Q X Φ pc lv st b := by
  refine jt_fact (z := a ≠ c) (fun F H hs => ?_) h
  obtain ⟨-, w, hw, -⟩ := hs
  have h1 : w i = jone a false q := hw.1 i _ (jap hi)
  have h2 : w j = jone c true ((0, k'), v :: vs) := hw.1 j _ (jap hj)
  rintro rfl
  have := hw.2 i j a (false, q) (true, ((0, k'), v :: vs)) (jlt (jap hi)) (jlt (jap hj)) (by simpa using hij) (by rw [h1]; exact ⟨rfl, rfl⟩) (by rw [h2]; exact ⟨rfl, rfl⟩)
  rcases this with z | z | z
  · cases z.1
  · cases z.1
  · rcases z.2 with z | z
    · exact absurd z.2 (by simp)
    · exact absurd (show 2 ≤ 0 from z) (by decide)
theorem lb_inj : ∀ {cs ds : List Nat}, (∀ c ∈ cs, c < 256) → (∀ c ∈ ds, c < 256) → lb cs = lb ds → cs = ds
  | [], [], _, _, _ => rfl
  | [], _ :: _, _, _, h => by simp [lb] at h
  | _ :: _, [], _, _, h => by simp [lb] at h
  | c :: cs, d :: ds, h1, h2, h => by
    simp only [lb, List.map_cons, List.cons.injEq, Value.int.injEq] at h
    have e := h.1
    have r1 := sb_rg c (h1 c (List.mem_cons_self))
    have r2 := sb_rg d (h2 d (List.mem_cons_self))
    have e2 := (iI_eq (by omega) (by omega)).mp e
    have e3 := sb_inj (h1 c (List.mem_cons_self)) (h2 d (List.mem_cons_self)) e2
    have e4 := lb_inj (fun x hx => h1 x (List.mem_cons_of_mem _ hx)) (fun x hx => h2 x (List.mem_cons_of_mem _ hx)) h.2
    rw [e3, e4]
theorem l_eq {cs ds : List Nat} (hl : cs.length = ds.length) (h : ∀ j, j < cs.length → cs[j]? = ds[j]?) : cs = ds := by
  apply List.ext_getElem? 
  intro n
  by_cases hn : n < cs.length
  · exact h n hn
  · rw [List.getElem?_eq_none (by omega), List.getElem?_eq_none (by omega)]
theorem iI_shr0 (z : Int) : iI z >>> (iI 0 &&& 31) = iI z := by
  have e1 : (iI 0 &&& 31) = (0 : Int32) := by decide
  rw [e1]
  apply Int32.toInt_inj.mp
  rw [pk_shr (iI z) 0 0 (by decide)]
  simp
theorem jLs_lt {a : Nat} {cs : List Nat} : ∀ h, jLs a cs h → ((∀ c ∈ cs, c < 256) ∧ cs.length ≤ 1000000) := by
  rintro h ⟨v, hv, -⟩
  exact hv
theorem l_get {α : Type} {cs : List α} {i : Nat} (h : i < cs.length) : ∃ c, cs[i]? = some c := ⟨cs[i], List.getElem?_eq_getElem h⟩
theorem l_mem {α : Type} {cs : List α} {i : Nat} {c : α} (h : cs[i]? = some c) : c ∈ cs := List.mem_of_getElem? h
theorem jn_char {z : Int} (h : 0 ≤ z ∧ z ≤ 65535) : narrow .char (.int (iI z)) = .int (iI z) := by
  show Value.int _ = Value.int _
  congr 1
  apply Int32.toInt_inj.mp
  rw [iI_toInt (by omega)]
  have h1 : ((iI z).toUInt32 % 65536).toNat = (z % 65536).toNat := by
    rw [UInt32.toNat_mod]
    have : (iI z).toUInt32.toNat = (z % 4294967296).toNat := by
      show (Int32.ofInt z).toBitVec.toNat = _
      show (BitVec.ofInt 32 z).toNat = _
      rw [BitVec.toNat_ofInt]; rfl
    rw [this]
    show (z % 4294967296).toNat % 65536 = _
    omega
  have h2 : (((iI z).toUInt32 % 65536).toInt32).toInt = (((iI z).toUInt32 % 65536).toNat : Int) := by
    show ((iI z).toUInt32 % 65536).toBitVec.toInt = _
    rw [BitVec.toInt_eq_toNat_of_lt]
    · rfl
    · show 2 * ((iI z).toUInt32 % 65536).toNat < 2 ^ 32
      rw [h1]; omega
  show (((iI z).toUInt32 % 65536).toInt32).toInt = z
  rw [h2, h1]; omega
theorem jt_same {M : jM} {l : Launch} {G : jG} {d C : Nat} {Q : jQ} {X : jX} {Φ Φ' : List jP} {pc : Nat} {lv : List (Nat × Value)} {st : List Value} {b : Nat} (i : Nat) {P P' : jP} (hi : Φ[i]? = some P) (he : P = P') (hΦ : Φ.set i P' = Φ') (h : jT M l G d C Q X Φ' pc lv st b) : jT M l G d C Q X Φ pc lv st b := by
  subst he; subst hΦ
  have e : Φ.set i P = Φ := by
    apply List.ext_getElem?
    intro n
    by_cases hn : i = n
    · subst hn; rw [List.getElem?_set_self (jlt hi), hi]
    · rw [List.getElem?_set_ne hn]
  rw [e] at h; exact h
theorem jB_fits (p : Bool) : fits .boolean (.int (jB p)) = true := by cases p <;> rfl
theorem jn_cfits {z : Int} (h : 0 ≤ z ∧ z ≤ 65535) : fits .char (.int (iI z)) = true := by
  show (decide ((0 : Int32) ≤ iI z) && decide (iI z ≤ (65535 : Int32))) = true
  rw [Bool.and_eq_true, decide_eq_true_eq, decide_eq_true_eq]
  exact ⟨(iI_le (a := 0) (by omega) (by omega)).mpr h.1, (iI_le (b := 65535) (by omega) (by omega)).mpr h.2⟩
theorem jB_e {p : Prop} [Decidable p] : iI (if p then 1 else 0) = jB (decide p) := by by_cases h : p <;> simp [h, jB, iI] <;> rfl
