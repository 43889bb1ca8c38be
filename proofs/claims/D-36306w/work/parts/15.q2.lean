set_option maxRecDepth 100000
theorem AL_len {G : jG} {a : Nat} {vs : List Nat} : ∀ h, AL G a vs h → vs.length ≤ 1000000 := by
  rintro h ⟨x, ⟨h1, -⟩, -⟩
  omega
/-- the place of the first one that e takes, -1 without one -/
def jfi {α : Type} (e : α → Bool) : List α → Int
  | [] => -1
  | x :: xs => if e x then 0 else if jfi e xs = -1 then -1 else jfi e xs + 1
theorem jfi_rg {α : Type} (e : α → Bool) : ∀ xs : List α, -1 ≤ jfi e xs ∧ jfi e xs < xs.length ∨ jfi e xs = -1
  | [] => Or.inr rfl
  | x :: xs => by
    have := jfi_rg e xs
    unfold jfi; split
    · left; simp only [List.length_cons]; omega
    · split
      · right; rfl
      · left; simp only [List.length_cons]; omega
theorem jfi_no {α : Type} {e : α → Bool} : ∀ {xs : List α}, (∀ (j : Nat) (x : α), xs[j]? = some x → e x = false) → jfi e xs = -1
  | [], _ => rfl
  | x :: xs, h => by
    have h1 : e x = false := h 0 x rfl
    have h2 : jfi e xs = -1 := jfi_no (fun j y hy => h (j + 1) y hy)
    unfold jfi; rw [if_neg (by rw [h1]; decide), if_pos h2]
theorem jfi_at {α : Type} {e : α → Bool} : ∀ {xs : List α} {k : Nat} {x : α}, xs[k]? = some x → e x = true → (∀ (j : Nat) (y : α), j < k → xs[j]? = some y → e y = false) → (k : Int) = jfi e xs
  | [], _, _, h, _, _ => by simp at h
  | y :: xs, 0, x, h, he, _ => by
    have h : y = x := by simpa using h
    subst h
    unfold jfi; rw [if_pos he]; rfl
  | y :: xs, k + 1, x, h, he, hq => by
    have h1 : e y = false := hq 0 y (by omega) rfl
    have h2 := jfi_at (xs := xs) (k := k) (x := x) (by simpa using h) he (fun j z hj hz => hq (j + 1) z (by omega) (by simpa using hz))
    unfold jfi; rw [if_neg (by rw [h1]; decide), if_neg (by omega)]; omega
theorem jfi_any {α : Type} {e : α → Bool} : ∀ {xs : List α}, 0 ≤ jfi e xs ↔ xs.any e = true
  | [] => by simp [jfi]
  | x :: xs => by
    have ih := jfi_any (e := e) (xs := xs)
    have hr := jfi_rg e xs
    unfold jfi
    by_cases h1 : e x = true
    · rw [if_pos h1]; simp [h1]
    · rw [if_neg h1]
      have h1' : e x = false := by simpa using h1
      simp only [List.any_cons, h1', Bool.false_or]
      rw [← ih]
      split <;> omega
theorem jfi_any0 {α : Type} {e : α → Bool} {xs : List α} (h : jfi e xs < 0) : xs.any e = false := by
  cases q : xs.any e with
  | false => rfl
  | true => have := jfi_any.mpr q; omega
abbrev mJ2_indexOfRange : jM := (cJ2_indexOfRange, RJ2, 6, (Option.some FieldType.int), "indexOfRange", none)
theorem oJ2_indexOfRange : jcode yJ2_indexOfRange mJ2_indexOfRange := q916
theorem pJ2_indexOfRange : jpar yJ2_indexOfRange 3 := ⟨by decide +kernel, by decide +kernel, by decide +kernel⟩
theorem sp_AL_indexOfRange_Str (l : Launch) (G : jG) (a : Nat) (ps : List (Nat × List Nat)) (o : Nat) (x : List Nat) : jS l G yJ2_indexOfRange mJ2_indexOfRange 4 [.ref a, .ref o, .int (iI 0), .int (iI ((ps.map Prod.fst).length : Int))] [AL G a (ps.map Prod.fst), jPs jStr ps, jStr (o, x)] (0) (jret (fun v9 Ψ => v9 = some (.int (iI (jfi (fun q => decide (x = q.2)) ps))) ∧ Ψ = [AL G a (ps.map Prod.fst)])) := by
  refine jS_of (plainFor_of_name (by decide)) rfl rfl rfl (Nat.le_of_ble_eq_true rfl) (fun X => ?_)
  show jT mJ2_indexOfRange l G _ _ _ X [AL G a (ps.map Prod.fst), jPs jStr ps, jStr (o, x)] 0 [(0, .ref a), (1, .ref o), (2, .int (iI 0)), (3, .int (iI ((ps.map Prod.fst).length : Int)))] [] _
  have hpl : (ps.map Prod.fst).length = ps.length := List.length_map _
  refine jt_open ?_
  rintro ⟨mc, arr, junk, f⟩ ⟨h1, h2, h3⟩
  try dsimp only at h1 h2 h3
  show jT mJ2_indexOfRange l G _ _ _ X [ow a 0 [.int mc, .ref arr, .int (iI ((ps.map Prod.fst).length : Int))], jA f arr ((1, 5), (ps.map Prod.fst).map Value.ref ++ junk), jEs "java/lang/Object" (ps.map Prod.fst), jPs jStr ps, jStr (o, x)] 0 [(0, .ref a), (1, .ref o), (2, .int (iI 0)), (3, .int (iI ((ps.map Prod.fst).length : Int)))] [] _
  refine jt_same 4 (P := jStr (o, x)) (P' := jLs o x) rfl (rfl) (Φ' := [ow a 0 [.int mc, .ref arr, .int (iI ((ps.map Prod.fst).length : Int))], jA f arr ((1, 5), (ps.map Prod.fst).map Value.ref ++ junk), jEs "java/lang/Object" (ps.map Prod.fst), jPs jStr ps, jLs o x]) rfl ?_
  refine jlv_aload_n dJ2_indexOfRange_0 rfl 0 rfl ?_
  refine jr_get 0 rfl rfl 1 q177 (Or.inl rfl) rfl dJ2_indexOfRange_1 ?_
  refine jlv_astore (lv' := [(4, .ref arr), (0, .ref a), (1, .ref o), (2, .int (iI 0)), (3, .int (iI ((ps.map Prod.fst).length : Int)))]) dJ2_indexOfRange_4 (by decide) rfl ?_
  refine jlv_aload_n dJ2_indexOfRange_6 rfl 2 rfl ?_
  refine jlv_ifnonnull (tgt := 39) dJ2_indexOfRange_7 (by decide) ?_
  refine jlv_iload_n dJ2_indexOfRange_39 rfl 3 rfl ?_
  refine jlv_istore (lv' := [(5, .int (iI 0)), (4, .ref arr), (0, .ref a), (1, .ref o), (2, .int (iI 0)), (3, .int (iI ((ps.map Prod.fst).length : Int)))]) dJ2_indexOfRange_40 (by decide) rfl ?_
  have loop_131 : ∀ (k_133 : Nat) (k : Nat) (bb : Nat), ps.length - k < k_133 → (k ≤ ps.length) → (∀ (j : Nat) (q : Nat × List Nat), j < k → ps[j]? = some q → decide (x = q.2) = false) → jT mJ2_indexOfRange l G 4 (0) (jret (fun v9 Ψ => v9 = some (.int (iI (jfi (fun q => decide (x = q.2)) ps))) ∧ Ψ = [AL G a (ps.map Prod.fst)])) X [ow a 0 [.int mc, .ref arr, .int (iI ((ps.map Prod.fst).length : Int))], jA f arr ((1, 5), (ps.map Prod.fst).map Value.ref ++ junk), jEs "java/lang/Object" (ps.map Prod.fst), jPs jStr ps, jLs o x] 42 [(5, .int (iI (k : Int))), (4, .ref arr), (0, .ref a), (1, .ref o), (2, .int (iI 0)), (3, .int (iI ((ps.map Prod.fst).length : Int)))] [] bb := by
    intro k_133
    induction k_133 with
    | zero =>
      intro k bb hm
      exact absurd hm (Nat.not_lt_zero _)
    | succ k_133 ih_132 =>
      intro k bb hm hk hq
      refine jlv_iload dJ2_indexOfRange_42 0 rfl ?_
      refine jlv_iload_n dJ2_indexOfRange_44 rfl 5 rfl ?_
      refine ji_icmp_ge 69 (by omega) (by omega) dJ2_indexOfRange_45 (by decide) (fun h_134 => ?_) (fun h_134 => ?_)
      · skip
        refine jlv_iconst (v := iI (-1)) dJ2_indexOfRange_69 rfl ?_
        refine jt_pickP [0, 1, 2, 3, 4] [] rfl trivial (Φ' := [ow a 0 [.int mc, .ref arr, .int (iI ((ps.map Prod.fst).length : Int))], jA f arr ((1, 5), (ps.map Prod.fst).map Value.ref ++ junk), jEs "java/lang/Object" (ps.map Prod.fst), jPs jStr ps, jLs o x]) rfl ?_
        refine jt_fold (A := [ow a 0 [.int mc, .ref arr, .int (iI ((ps.map Prod.fst).length : Int))], jA f arr ((1, 5), (ps.map Prod.fst).map Value.ref ++ junk), jEs "java/lang/Object" (ps.map Prod.fst)]) (P := AL G a (ps.map Prod.fst)) (AL_fold h1 h2 h3 rfl rfl) ?_
        show jT mJ2_indexOfRange l G _ _ _ X [AL G a (ps.map Prod.fst), jPs jStr ps, jLs o x] 70 [(5, .int (iI (k : Int))), (4, .ref arr), (0, .ref a), (1, .ref o), (2, .int (iI 0)), (3, .int (iI ((ps.map Prod.fst).length : Int)))] [.int (iI (-1))] _
        exact jr_zret dJ2_indexOfRange_70 rfl rfl (Ψ := [AL G a (ps.map Prod.fst)]) ⟨(by rw [jfi_no (fun j q hj => hq j q (by have := jlt hj; omega) hj)]), rfl⟩ (js_pickP [0] [] rfl trivial rfl)
      · skip
        obtain ⟨⟨ea, ex⟩, hp⟩ := l_get (show k < ps.length by omega)
        have hv : (ps.map Prod.fst)[k]? = some ea := by rw [List.getElem?_map, hp]; rfl
        refine jt_P 3 (ea, ex) jpers_Str rfl (List.mem_of_getElem? hp) ?_
        refine jt_same 0 (P := jStr (ea, ex)) (P' := jLs ea ex) rfl (rfl) (Φ' := [jLs ea ex, ow a 0 [.int mc, .ref arr, .int (iI ((ps.map Prod.fst).length : Int))], jA f arr ((1, 5), (ps.map Prod.fst).map Value.ref ++ junk), jEs "java/lang/Object" (ps.map Prod.fst), jPs jStr ps, jLs o x]) rfl ?_
        refine jlv_aload_n dJ2_indexOfRange_48 rfl 3 rfl ?_
        refine jlv_aload dJ2_indexOfRange_49 1 rfl ?_
        refine jlv_iload dJ2_indexOfRange_51 0 rfl ?_
        refine jr_aald 2 rfl (E := "java/lang/Object") rfl (n := k) (iI_eqn (by omega) (by omega)) (v := .ref ea) (al_at hv) dJ2_indexOfRange_53 ?_
        refine jt_cls 5 rfl jLs_has ?_
        refine jr_callO (x := ⟨"java/lang/Object", "equals", "(Ljava/lang/Object;)Z"⟩) (owner := "java/lang/Object") [.ref ea] (sp_S_equals l G o x ea ex) (rest := []) rfl 0 rfl rfl q919 q988 q918 q920 q952 q983 q81 oJ5_equals (show jpar ⟨"java/lang/Object", "equals", "(Ljava/lang/Object;)Z"⟩ 1 from ⟨by decide +kernel, by decide +kernel, by decide +kernel⟩) (by decide) (by decide) (Nat.le_of_ble_eq_true rfl) [6, 1, 0, 1, 2, 3, 4, 5, 6] [1, 6] rfl ⟨⟨_, rfl, jpers_jLs⟩, ⟨⟨_, rfl, jpers_jLs⟩, trivial⟩⟩ (Φr := [im o 2 [], jLs ea ex, ow a 0 [.int mc, .ref arr, .int (iI ((ps.map Prod.fst).length : Int))], jA f arr ((1, 5), (ps.map Prod.fst).map Value.ref ++ junk), jEs "java/lang/Object" (ps.map Prod.fst), jPs jStr ps, jLs o x]) rfl (by first | omega | exact Nat.zero_le _) dJ2_indexOfRange_54 (fun v9 Ψ hq => ?_) (fun _ _ hq => hq.elim)
        obtain ⟨rfl, rfl⟩ := hq
        show jT mJ2_indexOfRange l G _ _ _ X [im o 2 [], jLs ea ex, ow a 0 [.int mc, .ref arr, .int (iI ((ps.map Prod.fst).length : Int))], jA f arr ((1, 5), (ps.map Prod.fst).map Value.ref ++ junk), jEs "java/lang/Object" (ps.map Prod.fst), jPs jStr ps, jLs o x] 57 [(5, .int (iI (k : Int))), (4, .ref arr), (0, .ref a), (1, .ref o), (2, .int (iI 0)), (3, .int (iI ((ps.map Prod.fst).length : Int)))] [.int (jB (decide (x = ex)))] _
        refine ji_bz_eq 63 dJ2_indexOfRange_57 (by decide) (fun h_135 => ?_) (fun h_135 => ?_)
        · skip
          refine ji_iinc (lv' := [(5, .int (iI ((k : Int) + 1))), (4, .ref arr), (0, .ref a), (1, .ref o), (2, .int (iI 0)), (3, .int (iI ((ps.map Prod.fst).length : Int)))]) ((k : Int) + 1) (by omega) dJ2_indexOfRange_63 0 rfl (by decide) rfl ?_
          refine jlv_goto (tgt := 42) dJ2_indexOfRange_66 (by decide) ?_
          refine jt_pickP [2, 3, 4, 5, 6] [] rfl trivial (Φ' := [ow a 0 [.int mc, .ref arr, .int (iI ((ps.map Prod.fst).length : Int))], jA f arr ((1, 5), (ps.map Prod.fst).map Value.ref ++ junk), jEs "java/lang/Object" (ps.map Prod.fst), jPs jStr ps, jLs o x]) rfl ?_
          refine jt_lv [0, 1, 2, 3, 4, 5] (lv' := [(5, .int (iI ((k : Int) + 1))), (4, .ref arr), (0, .ref a), (1, .ref o), (2, .int (iI 0)), (3, .int (iI ((ps.map Prod.fst).length : Int)))]) rfl ?_
          exact ih_132 (k + 1) _ (by omega) (by omega) (fun j q hj hq2 => if z : j = k then (by rw [z, hp] at hq2; cases hq2; exact h_135) else hq j q (by omega) hq2)
        · skip
          refine jlv_iload dJ2_indexOfRange_60 0 rfl ?_
          refine jt_pickP [2, 3, 4, 0, 1, 5, 6] [] rfl trivial (Φ' := [ow a 0 [.int mc, .ref arr, .int (iI ((ps.map Prod.fst).length : Int))], jA f arr ((1, 5), (ps.map Prod.fst).map Value.ref ++ junk), jEs "java/lang/Object" (ps.map Prod.fst), im o 2 [], jLs ea ex, jPs jStr ps, jLs o x]) rfl ?_
          refine jt_fold (A := [ow a 0 [.int mc, .ref arr, .int (iI ((ps.map Prod.fst).length : Int))], jA f arr ((1, 5), (ps.map Prod.fst).map Value.ref ++ junk), jEs "java/lang/Object" (ps.map Prod.fst)]) (P := AL G a (ps.map Prod.fst)) (AL_fold h1 h2 h3 rfl rfl) ?_
          show jT mJ2_indexOfRange l G _ _ _ X [AL G a (ps.map Prod.fst), im o 2 [], jLs ea ex, jPs jStr ps, jLs o x] 62 [(5, .int (iI (k : Int))), (4, .ref arr), (0, .ref a), (1, .ref o), (2, .int (iI 0)), (3, .int (iI ((ps.map Prod.fst).length : Int)))] [.int (iI (k : Int))] _
          exact jr_zret dJ2_indexOfRange_62 rfl rfl (Ψ := [AL G a (ps.map Prod.fst)]) ⟨(by rw [jfi_at hp h_135 hq]), rfl⟩ (js_pickP [0] [] rfl trivial rfl)
  refine jt_pickP [0, 1, 2, 3, 4] [] rfl trivial (Φ' := [ow a 0 [.int mc, .ref arr, .int (iI ((ps.map Prod.fst).length : Int))], jA f arr ((1, 5), (ps.map Prod.fst).map Value.ref ++ junk), jEs "java/lang/Object" (ps.map Prod.fst), jPs jStr ps, jLs o x]) rfl ?_
  refine jt_lv [0, 1, 2, 3, 4, 5] (lv' := [(5, .int (iI 0)), (4, .ref arr), (0, .ref a), (1, .ref o), (2, .int (iI 0)), (3, .int (iI ((ps.map Prod.fst).length : Int)))]) rfl ?_
  exact loop_131 _ 0 _ (Nat.lt_succ_self _) (Nat.zero_le _) (fun j q hj => absurd hj (Nat.not_lt_zero _))

abbrev mJ2_indexOf : jM := (cJ2_indexOf, RJ2, 2, (Option.some FieldType.int), "indexOf", none)
theorem oJ2_indexOf : jcode yJ2_indexOf mJ2_indexOf := q912
theorem pJ2_indexOf : jpar yJ2_indexOf 1 := ⟨by decide +kernel, by decide +kernel, by decide +kernel⟩
theorem sp_AL_indexOf_Str (l : Launch) (G : jG) (a : Nat) (ps : List (Nat × List Nat)) (o : Nat) (x : List Nat) : jS l G yJ2_indexOf mJ2_indexOf 5 [.ref a, .ref o] [AL G a (ps.map Prod.fst), jPs jStr ps, jStr (o, x)] (0) (jret (fun v9 Ψ => v9 = some (.int (iI (jfi (fun q => decide (x = q.2)) ps))) ∧ Ψ = [AL G a (ps.map Prod.fst)])) := by
  refine jS_of (plainFor_of_name (by decide)) rfl rfl rfl (Nat.le_of_ble_eq_true rfl) (fun X => ?_)
  show jT mJ2_indexOf l G _ _ _ X [AL G a (ps.map Prod.fst), jPs jStr ps, jStr (o, x)] 0 [(0, .ref a), (1, .ref o)] [] _
  refine jlv_aload_n dJ2_indexOf_0 rfl 0 rfl ?_
  refine jlv_aload_n dJ2_indexOf_1 rfl 1 rfl ?_
  refine jlv_iconst (v := iI 0) dJ2_indexOf_2 rfl ?_
  refine jlv_aload_n dJ2_indexOf_3 rfl 0 rfl ?_
  refine jt_open ?_
  rintro ⟨mc, arr, junk, f⟩ ⟨h1, h2, h3⟩
  try dsimp only at h1 h2 h3
  show jT mJ2_indexOf l G _ _ _ X [ow a 0 [.int mc, .ref arr, .int (iI ((ps.map Prod.fst).length : Int))], jA f arr ((1, 5), (ps.map Prod.fst).map Value.ref ++ junk), jEs "java/lang/Object" (ps.map Prod.fst), jPs jStr ps, jStr (o, x)] 4 [(0, .ref a), (1, .ref o)] [.ref a, .int (iI 0), .ref o, .ref a] _
  refine jr_get 0 rfl rfl 2 q182 (Or.inl rfl) rfl dJ2_indexOf_4 ?_
  refine jt_pickP [0, 1, 2, 3, 4] [] rfl trivial (Φ' := [ow a 0 [.int mc, .ref arr, .int (iI ((ps.map Prod.fst).length : Int))], jA f arr ((1, 5), (ps.map Prod.fst).map Value.ref ++ junk), jEs "java/lang/Object" (ps.map Prod.fst), jPs jStr ps, jStr (o, x)]) rfl ?_
  refine jt_fold (A := [ow a 0 [.int mc, .ref arr, .int (iI ((ps.map Prod.fst).length : Int))], jA f arr ((1, 5), (ps.map Prod.fst).map Value.ref ++ junk), jEs "java/lang/Object" (ps.map Prod.fst)]) (P := AL G a (ps.map Prod.fst)) (AL_fold h1 h2 h3 rfl rfl) ?_
  show jT mJ2_indexOf l G _ _ _ X [AL G a (ps.map Prod.fst), jPs jStr ps, jStr (o, x)] 7 [(0, .ref a), (1, .ref o)] [.int (iI ((ps.map Prod.fst).length : Int)), .int (iI 0), .ref o, .ref a] _
  refine jt_cls 0 rfl AL_has ?_
  refine jr_callV [.ref o, .int (iI 0), .int (iI ((ps.map Prod.fst).length : Int))] (sp_AL_indexOfRange_Str l G a ps o x) (rest := []) 0 rfl rfl rfl q913 q914 q915 q78 oJ2_indexOfRange pJ2_indexOfRange (by decide) (by decide) (Nat.le_of_ble_eq_true rfl) [1, 2, 3, 0, 2, 3] [2, 3] rfl ⟨⟨_, rfl, (jpers_Ps (fun x => by first | exact jpers_Int x | exact jpers_Chr x | exact jpers_Str x))⟩, ⟨⟨_, rfl, (jpers_Str _)⟩, trivial⟩⟩ (Φr := [im a 0 [], jPs jStr ps, jStr (o, x)]) rfl (by first | omega | exact Nat.zero_le _) dJ2_indexOf_7 (fun v9 Ψ hq => ?_) (fun _ _ hq => hq.elim)
  obtain ⟨rfl, rfl⟩ := hq
  show jT mJ2_indexOf l G _ _ _ X [AL G a (ps.map Prod.fst), im a 0 [], jPs jStr ps, jStr (o, x)] 10 [(0, .ref a), (1, .ref o)] [.int (iI (jfi (fun q => decide (x = q.2)) ps))] _
  exact jr_zret dJ2_indexOf_10 rfl rfl (Ψ := [AL G a (ps.map Prod.fst)]) ⟨rfl, rfl⟩ (js_pickP [0] [] rfl trivial rfl)

abbrev mJ2_contains : jM := (cJ2_contains, RJ2, 2, (Option.some FieldType.boolean), "contains", none)
theorem oJ2_contains : jcode yJ2_contains mJ2_contains := q908
theorem pJ2_contains : jpar yJ2_contains 1 := ⟨by decide +kernel, by decide +kernel, by decide +kernel⟩
theorem sp_AL_contains_Str (l : Launch) (G : jG) (a : Nat) (ps : List (Nat × List Nat)) (o : Nat) (x : List Nat) : jS l G yJ2_contains mJ2_contains 6 [.ref a, .ref o] [AL G a (ps.map Prod.fst), jPs jStr ps, jStr (o, x)] (0) (jret (fun v9 Ψ => v9 = some (.int (jB (ps.any (fun q => decide (x = q.2))))) ∧ Ψ = [AL G a (ps.map Prod.fst)])) := by
  refine jS_of (plainFor_of_name (by decide)) rfl rfl rfl (Nat.le_of_ble_eq_true rfl) (fun X => ?_)
  show jT mJ2_contains l G _ _ _ X [AL G a (ps.map Prod.fst), jPs jStr ps, jStr (o, x)] 0 [(0, .ref a), (1, .ref o)] [] _
  have hfr := jfi_rg (fun q => decide (x = q.2)) ps
  refine jt_pure 0 rfl AL_len (fun hal => ?_)
  show jT mJ2_contains l G _ _ _ X [AL G a (ps.map Prod.fst), jPs jStr ps, jStr (o, x)] 0 [(0, .ref a), (1, .ref o)] [] _
  have hpl : (ps.map Prod.fst).length = ps.length := List.length_map _
  refine jlv_aload_n dJ2_contains_0 rfl 0 rfl ?_
  refine jlv_aload_n dJ2_contains_1 rfl 1 rfl ?_
  refine jt_cls 0 rfl AL_has ?_
  refine jr_callV [.ref o] (sp_AL_indexOf_Str l G a ps o x) (rest := []) 0 rfl rfl rfl q909 q910 q911 q78 oJ2_indexOf pJ2_indexOf (by decide) (by decide) (Nat.le_of_ble_eq_true rfl) [1, 2, 3, 0, 2, 3] [2, 3] rfl ⟨⟨_, rfl, (jpers_Ps (fun x => by first | exact jpers_Int x | exact jpers_Chr x | exact jpers_Str x))⟩, ⟨⟨_, rfl, (jpers_Str _)⟩, trivial⟩⟩ (Φr := [im a 0 [], jPs jStr ps, jStr (o, x)]) rfl (by first | omega | exact Nat.zero_le _) dJ2_contains_2 (fun v9 Ψ hq => ?_) (fun _ _ hq => hq.elim)
  obtain ⟨rfl, rfl⟩ := hq
  show jT mJ2_contains l G _ _ _ X [AL G a (ps.map Prod.fst), im a 0 [], jPs jStr ps, jStr (o, x)] 5 [(0, .ref a), (1, .ref o)] [.int (iI (jfi (fun q => decide (x = q.2)) ps))] _
  refine ji_if_lt 12 (by omega) dJ2_contains_5 (by decide) (fun h_136 => ?_) (fun h_136 => ?_)
  · skip
    refine jlv_iconst (v := iI 0) dJ2_contains_12 rfl ?_
    exact jr_zret dJ2_contains_13 rfl rfl (Ψ := [AL G a (ps.map Prod.fst)]) ⟨(by congr 2; first | exact jB_t (jfi_any.mp (by omega)) | exact jB_f (jfi_any0 (by omega))), rfl⟩ (js_pickP [0] [] rfl trivial rfl)
  · skip
    refine jlv_iconst (v := iI 1) dJ2_contains_8 rfl ?_
    refine jlv_goto (tgt := 13) dJ2_contains_9 (by decide) ?_
    exact jr_zret dJ2_contains_13 rfl rfl (Ψ := [AL G a (ps.map Prod.fst)]) ⟨(by congr 2; first | exact jB_t (jfi_any.mp (by omega)) | exact jB_f (jfi_any0 (by omega))), rfl⟩ (js_pickP [0] [] rfl trivial rfl)

theorem sp_AL_indexOfRange_Int (l : Launch) (G : jG) (a : Nat) (ps : List (Nat × Int)) (o : Nat) (x : Int) : jS l G yJ2_indexOfRange mJ2_indexOfRange 4 [.ref a, .ref o, .int (iI 0), .int (iI ((ps.map Prod.fst).length : Int))] [AL G a (ps.map Prod.fst), jPs jInt ps, jInt (o, x)] (0) (jret (fun v9 Ψ => v9 = some (.int (iI (jfi (fun q => decide (x = q.2)) ps))) ∧ Ψ = [AL G a (ps.map Prod.fst)])) := by
  refine jS_of (plainFor_of_name (by decide)) rfl rfl rfl (Nat.le_of_ble_eq_true rfl) (fun X => ?_)
  show jT mJ2_indexOfRange l G _ _ _ X [AL G a (ps.map Prod.fst), jPs jInt ps, jInt (o, x)] 0 [(0, .ref a), (1, .ref o), (2, .int (iI 0)), (3, .int (iI ((ps.map Prod.fst).length : Int)))] [] _
  have hpl : (ps.map Prod.fst).length = ps.length := List.length_map _
  refine jt_open ?_
  rintro ⟨mc, arr, junk, f⟩ ⟨h1, h2, h3⟩
  try dsimp only at h1 h2 h3
  show jT mJ2_indexOfRange l G _ _ _ X [ow a 0 [.int mc, .ref arr, .int (iI ((ps.map Prod.fst).length : Int))], jA f arr ((1, 5), (ps.map Prod.fst).map Value.ref ++ junk), jEs "java/lang/Object" (ps.map Prod.fst), jPs jInt ps, jInt (o, x)] 0 [(0, .ref a), (1, .ref o), (2, .int (iI 0)), (3, .int (iI ((ps.map Prod.fst).length : Int)))] [] _
  refine jlv_aload_n dJ2_indexOfRange_0 rfl 0 rfl ?_
  refine jr_get 0 rfl rfl 1 q177 (Or.inl rfl) rfl dJ2_indexOfRange_1 ?_
  refine jlv_astore (lv' := [(4, .ref arr), (0, .ref a), (1, .ref o), (2, .int (iI 0)), (3, .int (iI ((ps.map Prod.fst).length : Int)))]) dJ2_indexOfRange_4 (by decide) rfl ?_
  refine jlv_aload_n dJ2_indexOfRange_6 rfl 2 rfl ?_
  refine jlv_ifnonnull (tgt := 39) dJ2_indexOfRange_7 (by decide) ?_
  refine jlv_iload_n dJ2_indexOfRange_39 rfl 3 rfl ?_
  refine jlv_istore (lv' := [(5, .int (iI 0)), (4, .ref arr), (0, .ref a), (1, .ref o), (2, .int (iI 0)), (3, .int (iI ((ps.map Prod.fst).length : Int)))]) dJ2_indexOfRange_40 (by decide) rfl ?_
  have loop_137 : ∀ (k_139 : Nat) (k : Nat) (bb : Nat), ps.length - k < k_139 → (k ≤ ps.length) → (∀ (j : Nat) (q : Nat × Int), j < k → ps[j]? = some q → decide (x = q.2) = false) → jT mJ2_indexOfRange l G 4 (0) (jret (fun v9 Ψ => v9 = some (.int (iI (jfi (fun q => decide (x = q.2)) ps))) ∧ Ψ = [AL G a (ps.map Prod.fst)])) X [ow a 0 [.int mc, .ref arr, .int (iI ((ps.map Prod.fst).length : Int))], jA f arr ((1, 5), (ps.map Prod.fst).map Value.ref ++ junk), jEs "java/lang/Object" (ps.map Prod.fst), jPs jInt ps, jInt (o, x)] 42 [(5, .int (iI (k : Int))), (4, .ref arr), (0, .ref a), (1, .ref o), (2, .int (iI 0)), (3, .int (iI ((ps.map Prod.fst).length : Int)))] [] bb := by
    intro k_139
    induction k_139 with
    | zero =>
      intro k bb hm
      exact absurd hm (Nat.not_lt_zero _)
    | succ k_139 ih_138 =>
      intro k bb hm hk hq
      refine jlv_iload dJ2_indexOfRange_42 0 rfl ?_
      refine jlv_iload_n dJ2_indexOfRange_44 rfl 5 rfl ?_
      refine ji_icmp_ge 69 (by omega) (by omega) dJ2_indexOfRange_45 (by decide) (fun h_140 => ?_) (fun h_140 => ?_)
      · skip
        refine jlv_iconst (v := iI (-1)) dJ2_indexOfRange_69 rfl ?_
        refine jt_pickP [0, 1, 2, 3, 4] [] rfl trivial (Φ' := [ow a 0 [.int mc, .ref arr, .int (iI ((ps.map Prod.fst).length : Int))], jA f arr ((1, 5), (ps.map Prod.fst).map Value.ref ++ junk), jEs "java/lang/Object" (ps.map Prod.fst), jPs jInt ps, jInt (o, x)]) rfl ?_
        refine jt_fold (A := [ow a 0 [.int mc, .ref arr, .int (iI ((ps.map Prod.fst).length : Int))], jA f arr ((1, 5), (ps.map Prod.fst).map Value.ref ++ junk), jEs "java/lang/Object" (ps.map Prod.fst)]) (P := AL G a (ps.map Prod.fst)) (AL_fold h1 h2 h3 rfl rfl) ?_
        show jT mJ2_indexOfRange l G _ _ _ X [AL G a (ps.map Prod.fst), jPs jInt ps, jInt (o, x)] 70 [(5, .int (iI (k : Int))), (4, .ref arr), (0, .ref a), (1, .ref o), (2, .int (iI 0)), (3, .int (iI ((ps.map Prod.fst).length : Int)))] [.int (iI (-1))] _
        exact jr_zret dJ2_indexOfRange_70 rfl rfl (Ψ := [AL G a (ps.map Prod.fst)]) ⟨(by rw [jfi_no (fun j q hj => hq j q (by have := jlt hj; omega) hj)]), rfl⟩ (js_pickP [0] [] rfl trivial rfl)
      · skip
        obtain ⟨⟨ea, ex⟩, hp⟩ := l_get (show k < ps.length by omega)
        have hv : (ps.map Prod.fst)[k]? = some ea := by rw [List.getElem?_map, hp]; rfl
        refine jt_P 3 (ea, ex) jpers_Int rfl (List.mem_of_getElem? hp) ?_
        refine jlv_aload_n dJ2_indexOfRange_48 rfl 3 rfl ?_
        refine jlv_aload dJ2_indexOfRange_49 1 rfl ?_
        refine jlv_iload dJ2_indexOfRange_51 0 rfl ?_
        refine jr_aald 2 rfl (E := "java/lang/Object") rfl (n := k) (iI_eqn (by omega) (by omega)) (v := .ref ea) (al_at hv) dJ2_indexOfRange_53 ?_
        refine jt_cls 5 rfl jInt_has ?_
        refine jr_callO (x := ⟨"java/lang/Object", "equals", "(Ljava/lang/Object;)Z"⟩) (owner := "java/lang/Object") [.ref ea] (sp_Int_equals l G o x ea ex) (rest := []) rfl 0 rfl rfl q919 q988 q918 q920 q945 q982 q97 oJ18_equals (show jpar ⟨"java/lang/Object", "equals", "(Ljava/lang/Object;)Z"⟩ 1 from ⟨by decide +kernel, by decide +kernel, by decide +kernel⟩) (by decide) (by decide) (Nat.le_of_ble_eq_true rfl) [6, 1, 0, 1, 2, 3, 4, 5, 6] [1, 6] rfl ⟨⟨_, rfl, (jpers_Int _)⟩, ⟨⟨_, rfl, (jpers_Int _)⟩, trivial⟩⟩ (Φr := [im o 6 [], jInt (ea, ex), ow a 0 [.int mc, .ref arr, .int (iI ((ps.map Prod.fst).length : Int))], jA f arr ((1, 5), (ps.map Prod.fst).map Value.ref ++ junk), jEs "java/lang/Object" (ps.map Prod.fst), jPs jInt ps, jInt (o, x)]) rfl (by first | omega | exact Nat.zero_le _) dJ2_indexOfRange_54 (fun v9 Ψ hq => ?_) (fun _ _ hq => hq.elim)
        obtain ⟨rfl, rfl⟩ := hq
        show jT mJ2_indexOfRange l G _ _ _ X [im o 6 [], jInt (ea, ex), ow a 0 [.int mc, .ref arr, .int (iI ((ps.map Prod.fst).length : Int))], jA f arr ((1, 5), (ps.map Prod.fst).map Value.ref ++ junk), jEs "java/lang/Object" (ps.map Prod.fst), jPs jInt ps, jInt (o, x)] 57 [(5, .int (iI (k : Int))), (4, .ref arr), (0, .ref a), (1, .ref o), (2, .int (iI 0)), (3, .int (iI ((ps.map Prod.fst).length : Int)))] [.int (jB (decide (x = ex)))] _
        refine ji_bz_eq 63 dJ2_indexOfRange_57 (by decide) (fun h_141 => ?_) (fun h_141 => ?_)
        · skip
          refine ji_iinc (lv' := [(5, .int (iI ((k : Int) + 1))), (4, .ref arr), (0, .ref a), (1, .ref o), (2, .int (iI 0)), (3, .int (iI ((ps.map Prod.fst).length : Int)))]) ((k : Int) + 1) (by omega) dJ2_indexOfRange_63 0 rfl (by decide) rfl ?_
          refine jlv_goto (tgt := 42) dJ2_indexOfRange_66 (by decide) ?_
          refine jt_pickP [2, 3, 4, 5, 6] [] rfl trivial (Φ' := [ow a 0 [.int mc, .ref arr, .int (iI ((ps.map Prod.fst).length : Int))], jA f arr ((1, 5), (ps.map Prod.fst).map Value.ref ++ junk), jEs "java/lang/Object" (ps.map Prod.fst), jPs jInt ps, jInt (o, x)]) rfl ?_
          refine jt_lv [0, 1, 2, 3, 4, 5] (lv' := [(5, .int (iI ((k : Int) + 1))), (4, .ref arr), (0, .ref a), (1, .ref o), (2, .int (iI 0)), (3, .int (iI ((ps.map Prod.fst).length : Int)))]) rfl ?_
          exact ih_138 (k + 1) _ (by omega) (by omega) (fun j q hj hq2 => if z : j = k then (by rw [z, hp] at hq2; cases hq2; exact h_141) else hq j q (by omega) hq2)
        · skip
          refine jlv_iload dJ2_indexOfRange_60 0 rfl ?_
          refine jt_pickP [2, 3, 4, 0, 1, 5, 6] [] rfl trivial (Φ' := [ow a 0 [.int mc, .ref arr, .int (iI ((ps.map Prod.fst).length : Int))], jA f arr ((1, 5), (ps.map Prod.fst).map Value.ref ++ junk), jEs "java/lang/Object" (ps.map Prod.fst), im o 6 [], jInt (ea, ex), jPs jInt ps, jInt (o, x)]) rfl ?_
          refine jt_fold (A := [ow a 0 [.int mc, .ref arr, .int (iI ((ps.map Prod.fst).length : Int))], jA f arr ((1, 5), (ps.map Prod.fst).map Value.ref ++ junk), jEs "java/lang/Object" (ps.map Prod.fst)]) (P := AL G a (ps.map Prod.fst)) (AL_fold h1 h2 h3 rfl rfl) ?_
          show jT mJ2_indexOfRange l G _ _ _ X [AL G a (ps.map Prod.fst), im o 6 [], jInt (ea, ex), jPs jInt ps, jInt (o, x)] 62 [(5, .int (iI (k : Int))), (4, .ref arr), (0, .ref a), (1, .ref o), (2, .int (iI 0)), (3, .int (iI ((ps.map Prod.fst).length : Int)))] [.int (iI (k : Int))] _
          exact jr_zret dJ2_indexOfRange_62 rfl rfl (Ψ := [AL G a (ps.map Prod.fst)]) ⟨(by rw [jfi_at hp h_141 hq]), rfl⟩ (js_pickP [0] [] rfl trivial rfl)
  refine jt_pickP [0, 1, 2, 3, 4] [] rfl trivial (Φ' := [ow a 0 [.int mc, .ref arr, .int (iI ((ps.map Prod.fst).length : Int))], jA f arr ((1, 5), (ps.map Prod.fst).map Value.ref ++ junk), jEs "java/lang/Object" (ps.map Prod.fst), jPs jInt ps, jInt (o, x)]) rfl ?_
  refine jt_lv [0, 1, 2, 3, 4, 5] (lv' := [(5, .int (iI 0)), (4, .ref arr), (0, .ref a), (1, .ref o), (2, .int (iI 0)), (3, .int (iI ((ps.map Prod.fst).length : Int)))]) rfl ?_
  exact loop_137 _ 0 _ (Nat.lt_succ_self _) (Nat.zero_le _) (fun j q hj => absurd hj (Nat.not_lt_zero _))

theorem sp_AL_indexOf_Int (l : Launch) (G : jG) (a : Nat) (ps : List (Nat × Int)) (o : Nat) (x : Int) : jS l G yJ2_indexOf mJ2_indexOf 5 [.ref a, .ref o] [AL G a (ps.map Prod.fst), jPs jInt ps, jInt (o, x)] (0) (jret (fun v9 Ψ => v9 = some (.int (iI (jfi (fun q => decide (x = q.2)) ps))) ∧ Ψ = [AL G a (ps.map Prod.fst)])) := by
  refine jS_of (plainFor_of_name (by decide)) rfl rfl rfl (Nat.le_of_ble_eq_true rfl) (fun X => ?_)
  show jT mJ2_indexOf l G _ _ _ X [AL G a (ps.map Prod.fst), jPs jInt ps, jInt (o, x)] 0 [(0, .ref a), (1, .ref o)] [] _
  refine jlv_aload_n dJ2_indexOf_0 rfl 0 rfl ?_
  refine jlv_aload_n dJ2_indexOf_1 rfl 1 rfl ?_
  refine jlv_iconst (v := iI 0) dJ2_indexOf_2 rfl ?_
  refine jlv_aload_n dJ2_indexOf_3 rfl 0 rfl ?_
  refine jt_open ?_
  rintro ⟨mc, arr, junk, f⟩ ⟨h1, h2, h3⟩
  try dsimp only at h1 h2 h3
  show jT mJ2_indexOf l G _ _ _ X [ow a 0 [.int mc, .ref arr, .int (iI ((ps.map Prod.fst).length : Int))], jA f arr ((1, 5), (ps.map Prod.fst).map Value.ref ++ junk), jEs "java/lang/Object" (ps.map Prod.fst), jPs jInt ps, jInt (o, x)] 4 [(0, .ref a), (1, .ref o)] [.ref a, .int (iI 0), .ref o, .ref a] _
  refine jr_get 0 rfl rfl 2 q182 (Or.inl rfl) rfl dJ2_indexOf_4 ?_
  refine jt_pickP [0, 1, 2, 3, 4] [] rfl trivial (Φ' := [ow a 0 [.int mc, .ref arr, .int (iI ((ps.map Prod.fst).length : Int))], jA f arr ((1, 5), (ps.map Prod.fst).map Value.ref ++ junk), jEs "java/lang/Object" (ps.map Prod.fst), jPs jInt ps, jInt (o, x)]) rfl ?_
  refine jt_fold (A := [ow a 0 [.int mc, .ref arr, .int (iI ((ps.map Prod.fst).length : Int))], jA f arr ((1, 5), (ps.map Prod.fst).map Value.ref ++ junk), jEs "java/lang/Object" (ps.map Prod.fst)]) (P := AL G a (ps.map Prod.fst)) (AL_fold h1 h2 h3 rfl rfl) ?_
  show jT mJ2_indexOf l G _ _ _ X [AL G a (ps.map Prod.fst), jPs jInt ps, jInt (o, x)] 7 [(0, .ref a), (1, .ref o)] [.int (iI ((ps.map Prod.fst).length : Int)), .int (iI 0), .ref o, .ref a] _
  refine jt_cls 0 rfl AL_has ?_
  refine jr_callV [.ref o, .int (iI 0), .int (iI ((ps.map Prod.fst).length : Int))] (sp_AL_indexOfRange_Int l G a ps o x) (rest := []) 0 rfl rfl rfl q913 q914 q915 q78 oJ2_indexOfRange pJ2_indexOfRange (by decide) (by decide) (Nat.le_of_ble_eq_true rfl) [1, 2, 3, 0, 2, 3] [2, 3] rfl ⟨⟨_, rfl, (jpers_Ps (fun x => by first | exact jpers_Int x | exact jpers_Chr x | exact jpers_Str x))⟩, ⟨⟨_, rfl, (jpers_Int _)⟩, trivial⟩⟩ (Φr := [im a 0 [], jPs jInt ps, jInt (o, x)]) rfl (by first | omega | exact Nat.zero_le _) dJ2_indexOf_7 (fun v9 Ψ hq => ?_) (fun _ _ hq => hq.elim)
  obtain ⟨rfl, rfl⟩ := hq
  show jT mJ2_indexOf l G _ _ _ X [AL G a (ps.map Prod.fst), im a 0 [], jPs jInt ps, jInt (o, x)] 10 [(0, .ref a), (1, .ref o)] [.int (iI (jfi (fun q => decide (x = q.2)) ps))] _
  exact jr_zret dJ2_indexOf_10 rfl rfl (Ψ := [AL G a (ps.map Prod.fst)]) ⟨rfl, rfl⟩ (js_pickP [0] [] rfl trivial rfl)

theorem sp_AL_contains_Int (l : Launch) (G : jG) (a : Nat) (ps : List (Nat × Int)) (o : Nat) (x : Int) : jS l G yJ2_contains mJ2_contains 6 [.ref a, .ref o] [AL G a (ps.map Prod.fst), jPs jInt ps, jInt (o, x)] (0) (jret (fun v9 Ψ => v9 = some (.int (jB (ps.any (fun q => decide (x = q.2))))) ∧ Ψ = [AL G a (ps.map Prod.fst)])) := by
  refine jS_of (plainFor_of_name (by decide)) rfl rfl rfl (Nat.le_of_ble_eq_true rfl) (fun X => ?_)
  show jT mJ2_contains l G _ _ _ X [AL G a (ps.map Prod.fst), jPs jInt ps, jInt (o, x)] 0 [(0, .ref a), (1, .ref o)] [] _
  have hfr := jfi_rg (fun q => decide (x = q.2)) ps
  refine jt_pure 0 rfl AL_len (fun hal => ?_)
  show jT mJ2_contains l G _ _ _ X [AL G a (ps.map Prod.fst), jPs jInt ps, jInt (o, x)] 0 [(0, .ref a), (1, .ref o)] [] _
  have hpl : (ps.map Prod.fst).length = ps.length := List.length_map _
  refine jlv_aload_n dJ2_contains_0 rfl 0 rfl ?_
  refine jlv_aload_n dJ2_contains_1 rfl 1 rfl ?_
  refine jt_cls 0 rfl AL_has ?_
  refine jr_callV [.ref o] (sp_AL_indexOf_Int l G a ps o x) (rest := []) 0 rfl rfl rfl q909 q910 q911 q78 oJ2_indexOf pJ2_indexOf (by decide) (by decide) (Nat.le_of_ble_eq_true rfl) [1, 2, 3, 0, 2, 3] [2, 3] rfl ⟨⟨_, rfl, (jpers_Ps (fun x => by first | exact jpers_Int x | exact jpers_Chr x | exact jpers_Str x))⟩, ⟨⟨_, rfl, (jpers_Int _)⟩, trivial⟩⟩ (Φr := [im a 0 [], jPs jInt ps, jInt (o, x)]) rfl (by first | omega | exact Nat.zero_le _) dJ2_contains_2 (fun v9 Ψ hq => ?_) (fun _ _ hq => hq.elim)
  obtain ⟨rfl, rfl⟩ := hq
  show jT mJ2_contains l G _ _ _ X [AL G a (ps.map Prod.fst), im a 0 [], jPs jInt ps, jInt (o, x)] 5 [(0, .ref a), (1, .ref o)] [.int (iI (jfi (fun q => decide (x = q.2)) ps))] _
  refine ji_if_lt 12 (by omega) dJ2_contains_5 (by decide) (fun h_142 => ?_) (fun h_142 => ?_)
  · skip
    refine jlv_iconst (v := iI 0) dJ2_contains_12 rfl ?_
    exact jr_zret dJ2_contains_13 rfl rfl (Ψ := [AL G a (ps.map Prod.fst)]) ⟨(by congr 2; first | exact jB_t (jfi_any.mp (by omega)) | exact jB_f (jfi_any0 (by omega))), rfl⟩ (js_pickP [0] [] rfl trivial rfl)
  · skip
    refine jlv_iconst (v := iI 1) dJ2_contains_8 rfl ?_
    refine jlv_goto (tgt := 13) dJ2_contains_9 (by decide) ?_
    exact jr_zret dJ2_contains_13 rfl rfl (Ψ := [AL G a (ps.map Prod.fst)]) ⟨(by congr 2; first | exact jB_t (jfi_any.mp (by omega)) | exact jB_f (jfi_any0 (by omega))), rfl⟩ (js_pickP [0] [] rfl trivial rfl)

theorem sp_AL_indexOfRange_Chr (l : Launch) (G : jG) (a : Nat) (ps : List (Nat × Nat)) (o : Nat) (x : Nat) : jS l G yJ2_indexOfRange mJ2_indexOfRange 4 [.ref a, .ref o, .int (iI 0), .int (iI ((ps.map Prod.fst).length : Int))] [AL G a (ps.map Prod.fst), jPs jChr ps, jChr (o, x)] (0) (jret (fun v9 Ψ => v9 = some (.int (iI (jfi (fun q => decide (x = q.2)) ps))) ∧ Ψ = [AL G a (ps.map Prod.fst)])) := by
  refine jS_of (plainFor_of_name (by decide)) rfl rfl rfl (Nat.le_of_ble_eq_true rfl) (fun X => ?_)
  show jT mJ2_indexOfRange l G _ _ _ X [AL G a (ps.map Prod.fst), jPs jChr ps, jChr (o, x)] 0 [(0, .ref a), (1, .ref o), (2, .int (iI 0)), (3, .int (iI ((ps.map Prod.fst).length : Int)))] [] _
  have hpl : (ps.map Prod.fst).length = ps.length := List.length_map _
  refine jt_open ?_
  rintro ⟨mc, arr, junk, f⟩ ⟨h1, h2, h3⟩
  try dsimp only at h1 h2 h3
  show jT mJ2_indexOfRange l G _ _ _ X [ow a 0 [.int mc, .ref arr, .int (iI ((ps.map Prod.fst).length : Int))], jA f arr ((1, 5), (ps.map Prod.fst).map Value.ref ++ junk), jEs "java/lang/Object" (ps.map Prod.fst), jPs jChr ps, jChr (o, x)] 0 [(0, .ref a), (1, .ref o), (2, .int (iI 0)), (3, .int (iI ((ps.map Prod.fst).length : Int)))] [] _
  refine jlv_aload_n dJ2_indexOfRange_0 rfl 0 rfl ?_
  refine jr_get 0 rfl rfl 1 q177 (Or.inl rfl) rfl dJ2_indexOfRange_1 ?_
  refine jlv_astore (lv' := [(4, .ref arr), (0, .ref a), (1, .ref o), (2, .int (iI 0)), (3, .int (iI ((ps.map Prod.fst).length : Int)))]) dJ2_indexOfRange_4 (by decide) rfl ?_
  refine jlv_aload_n dJ2_indexOfRange_6 rfl 2 rfl ?_
  refine jlv_ifnonnull (tgt := 39) dJ2_indexOfRange_7 (by decide) ?_
  refine jlv_iload_n dJ2_indexOfRange_39 rfl 3 rfl ?_
  refine jlv_istore (lv' := [(5, .int (iI 0)), (4, .ref arr), (0, .ref a), (1, .ref o), (2, .int (iI 0)), (3, .int (iI ((ps.map Prod.fst).length : Int)))]) dJ2_indexOfRange_40 (by decide) rfl ?_
  have loop_143 : ∀ (k_145 : Nat) (k : Nat) (bb : Nat), ps.length - k < k_145 → (k ≤ ps.length) → (∀ (j : Nat) (q : Nat × Nat), j < k → ps[j]? = some q → decide (x = q.2) = false) → jT mJ2_indexOfRange l G 4 (0) (jret (fun v9 Ψ => v9 = some (.int (iI (jfi (fun q => decide (x = q.2)) ps))) ∧ Ψ = [AL G a (ps.map Prod.fst)])) X [ow a 0 [.int mc, .ref arr, .int (iI ((ps.map Prod.fst).length : Int))], jA f arr ((1, 5), (ps.map Prod.fst).map Value.ref ++ junk), jEs "java/lang/Object" (ps.map Prod.fst), jPs jChr ps, jChr (o, x)] 42 [(5, .int (iI (k : Int))), (4, .ref arr), (0, .ref a), (1, .ref o), (2, .int (iI 0)), (3, .int (iI ((ps.map Prod.fst).length : Int)))] [] bb := by
    intro k_145
    induction k_145 with
    | zero =>
      intro k bb hm
      exact absurd hm (Nat.not_lt_zero _)
    | succ k_145 ih_144 =>
      intro k bb hm hk hq
      refine jlv_iload dJ2_indexOfRange_42 0 rfl ?_
      refine jlv_iload_n dJ2_indexOfRange_44 rfl 5 rfl ?_
      refine ji_icmp_ge 69 (by omega) (by omega) dJ2_indexOfRange_45 (by decide) (fun h_146 => ?_) (fun h_146 => ?_)
      · skip
        refine jlv_iconst (v := iI (-1)) dJ2_indexOfRange_69 rfl ?_
        refine jt_pickP [0, 1, 2, 3, 4] [] rfl trivial (Φ' := [ow a 0 [.int mc, .ref arr, .int (iI ((ps.map Prod.fst).length : Int))], jA f arr ((1, 5), (ps.map Prod.fst).map Value.ref ++ junk), jEs "java/lang/Object" (ps.map Prod.fst), jPs jChr ps, jChr (o, x)]) rfl ?_
        refine jt_fold (A := [ow a 0 [.int mc, .ref arr, .int (iI ((ps.map Prod.fst).length : Int))], jA f arr ((1, 5), (ps.map Prod.fst).map Value.ref ++ junk), jEs "java/lang/Object" (ps.map Prod.fst)]) (P := AL G a (ps.map Prod.fst)) (AL_fold h1 h2 h3 rfl rfl) ?_
        show jT mJ2_indexOfRange l G _ _ _ X [AL G a (ps.map Prod.fst), jPs jChr ps, jChr (o, x)] 70 [(5, .int (iI (k : Int))), (4, .ref arr), (0, .ref a), (1, .ref o), (2, .int (iI 0)), (3, .int (iI ((ps.map Prod.fst).length : Int)))] [.int (iI (-1))] _
        exact jr_zret dJ2_indexOfRange_70 rfl rfl (Ψ := [AL G a (ps.map Prod.fst)]) ⟨(by rw [jfi_no (fun j q hj => hq j q (by have := jlt hj; omega) hj)]), rfl⟩ (js_pickP [0] [] rfl trivial rfl)
      · skip
        obtain ⟨⟨ea, ex⟩, hp⟩ := l_get (show k < ps.length by omega)
        have hv : (ps.map Prod.fst)[k]? = some ea := by rw [List.getElem?_map, hp]; rfl
        refine jt_P 3 (ea, ex) jpers_Chr rfl (List.mem_of_getElem? hp) ?_
        refine jlv_aload_n dJ2_indexOfRange_48 rfl 3 rfl ?_
        refine jlv_aload dJ2_indexOfRange_49 1 rfl ?_
        refine jlv_iload dJ2_indexOfRange_51 0 rfl ?_
        refine jr_aald 2 rfl (E := "java/lang/Object") rfl (n := k) (iI_eqn (by omega) (by omega)) (v := .ref ea) (al_at hv) dJ2_indexOfRange_53 ?_
        refine jt_cls 5 rfl jChr_has ?_
        refine jr_callO (x := ⟨"java/lang/Object", "equals", "(Ljava/lang/Object;)Z"⟩) (owner := "java/lang/Object") [.ref ea] (sp_Chr_equals l G o x ea ex) (rest := []) rfl 0 rfl rfl q919 q988 q918 q920 q938 q978 q128 oJ45_equals (show jpar ⟨"java/lang/Object", "equals", "(Ljava/lang/Object;)Z"⟩ 1 from ⟨by decide +kernel, by decide +kernel, by decide +kernel⟩) (by decide) (by decide) (Nat.le_of_ble_eq_true rfl) [6, 1, 0, 1, 2, 3, 4, 5, 6] [1, 6] rfl ⟨⟨_, rfl, (jpers_Chr _)⟩, ⟨⟨_, rfl, (jpers_Chr _)⟩, trivial⟩⟩ (Φr := [im o 21 [], jChr (ea, ex), ow a 0 [.int mc, .ref arr, .int (iI ((ps.map Prod.fst).length : Int))], jA f arr ((1, 5), (ps.map Prod.fst).map Value.ref ++ junk), jEs "java/lang/Object" (ps.map Prod.fst), jPs jChr ps, jChr (o, x)]) rfl (by first | omega | exact Nat.zero_le _) dJ2_indexOfRange_54 (fun v9 Ψ hq => ?_) (fun _ _ hq => hq.elim)
        obtain ⟨rfl, rfl⟩ := hq
        show jT mJ2_indexOfRange l G _ _ _ X [im o 21 [], jChr (ea, ex), ow a 0 [.int mc, .ref arr, .int (iI ((ps.map Prod.fst).length : Int))], jA f arr ((1, 5), (ps.map Prod.fst).map Value.ref ++ junk), jEs "java/lang/Object" (ps.map Prod.fst), jPs jChr ps, jChr (o, x)] 57 [(5, .int (iI (k : Int))), (4, .ref arr), (0, .ref a), (1, .ref o), (2, .int (iI 0)), (3, .int (iI ((ps.map Prod.fst).length : Int)))] [.int (jB (decide (x = ex)))] _
        refine ji_bz_eq 63 dJ2_indexOfRange_57 (by decide) (fun h_147 => ?_) (fun h_147 => ?_)
        · skip
          refine ji_iinc (lv' := [(5, .int (iI ((k : Int) + 1))), (4, .ref arr), (0, .ref a), (1, .ref o), (2, .int (iI 0)), (3, .int (iI ((ps.map Prod.fst).length : Int)))]) ((k : Int) + 1) (by omega) dJ2_indexOfRange_63 0 rfl (by decide) rfl ?_
          refine jlv_goto (tgt := 42) dJ2_indexOfRange_66 (by decide) ?_
          refine jt_pickP [2, 3, 4, 5, 6] [] rfl trivial (Φ' := [ow a 0 [.int mc, .ref arr, .int (iI ((ps.map Prod.fst).length : Int))], jA f arr ((1, 5), (ps.map Prod.fst).map Value.ref ++ junk), jEs "java/lang/Object" (ps.map Prod.fst), jPs jChr ps, jChr (o, x)]) rfl ?_
          refine jt_lv [0, 1, 2, 3, 4, 5] (lv' := [(5, .int (iI ((k : Int) + 1))), (4, .ref arr), (0, .ref a), (1, .ref o), (2, .int (iI 0)), (3, .int (iI ((ps.map Prod.fst).length : Int)))]) rfl ?_
          exact ih_144 (k + 1) _ (by omega) (by omega) (fun j q hj hq2 => if z : j = k then (by rw [z, hp] at hq2; cases hq2; exact h_147) else hq j q (by omega) hq2)
        · skip
          refine jlv_iload dJ2_indexOfRange_60 0 rfl ?_
          refine jt_pickP [2, 3, 4, 0, 1, 5, 6] [] rfl trivial (Φ' := [ow a 0 [.int mc, .ref arr, .int (iI ((ps.map Prod.fst).length : Int))], jA f arr ((1, 5), (ps.map Prod.fst).map Value.ref ++ junk), jEs "java/lang/Object" (ps.map Prod.fst), im o 21 [], jChr (ea, ex), jPs jChr ps, jChr (o, x)]) rfl ?_
          refine jt_fold (A := [ow a 0 [.int mc, .ref arr, .int (iI ((ps.map Prod.fst).length : Int))], jA f arr ((1, 5), (ps.map Prod.fst).map Value.ref ++ junk), jEs "java/lang/Object" (ps.map Prod.fst)]) (P := AL G a (ps.map Prod.fst)) (AL_fold h1 h2 h3 rfl rfl) ?_
          show jT mJ2_indexOfRange l G _ _ _ X [AL G a (ps.map Prod.fst), im o 21 [], jChr (ea, ex), jPs jChr ps, jChr (o, x)] 62 [(5, .int (iI (k : Int))), (4, .ref arr), (0, .ref a), (1, .ref o), (2, .int (iI 0)), (3, .int (iI ((ps.map Prod.fst).length : Int)))] [.int (iI (k : Int))] _
          exact jr_zret dJ2_indexOfRange_62 rfl rfl (Ψ := [AL G a (ps.map Prod.fst)]) ⟨(by rw [jfi_at hp h_147 hq]), rfl⟩ (js_pickP [0] [] rfl trivial rfl)
  refine jt_pickP [0, 1, 2, 3, 4] [] rfl trivial (Φ' := [ow a 0 [.int mc, .ref arr, .int (iI ((ps.map Prod.fst).length : Int))], jA f arr ((1, 5), (ps.map Prod.fst).map Value.ref ++ junk), jEs "java/lang/Object" (ps.map Prod.fst), jPs jChr ps, jChr (o, x)]) rfl ?_
  refine jt_lv [0, 1, 2, 3, 4, 5] (lv' := [(5, .int (iI 0)), (4, .ref arr), (0, .ref a), (1, .ref o), (2, .int (iI 0)), (3, .int (iI ((ps.map Prod.fst).length : Int)))]) rfl ?_
  exact loop_143 _ 0 _ (Nat.lt_succ_self _) (Nat.zero_le _) (fun j q hj => absurd hj (Nat.not_lt_zero _))

theorem sp_AL_indexOf_Chr (l : Launch) (G : jG) (a : Nat) (ps : List (Nat × Nat)) (o : Nat) (x : Nat) : jS l G yJ2_indexOf mJ2_indexOf 5 [.ref a, .ref o] [AL G a (ps.map Prod.fst), jPs jChr ps, jChr (o, x)] (0) (jret (fun v9 Ψ => v9 = some (.int (iI (jfi (fun q => decide (x = q.2)) ps))) ∧ Ψ = [AL G a (ps.map Prod.fst)])) := by
  refine jS_of (plainFor_of_name (by decide)) rfl rfl rfl (Nat.le_of_ble_eq_true rfl) (fun X => ?_)
  show jT mJ2_indexOf l G _ _ _ X [AL G a (ps.map Prod.fst), jPs jChr ps, jChr (o, x)] 0 [(0, .ref a), (1, .ref o)] [] _
  refine jlv_aload_n dJ2_indexOf_0 rfl 0 rfl ?_
  refine jlv_aload_n dJ2_indexOf_1 rfl 1 rfl ?_
  refine jlv_iconst (v := iI 0) dJ2_indexOf_2 rfl ?_
  refine jlv_aload_n dJ2_indexOf_3 rfl 0 rfl ?_
  refine jt_open ?_
  rintro ⟨mc, arr, junk, f⟩ ⟨h1, h2, h3⟩
  try dsimp only at h1 h2 h3
  show jT mJ2_indexOf l G _ _ _ X [ow a 0 [.int mc, .ref arr, .int (iI ((ps.map Prod.fst).length : Int))], jA f arr ((1, 5), (ps.map Prod.fst).map Value.ref ++ junk), jEs "java/lang/Object" (ps.map Prod.fst), jPs jChr ps, jChr (o, x)] 4 [(0, .ref a), (1, .ref o)] [.ref a, .int (iI 0), .ref o, .ref a] _
  refine jr_get 0 rfl rfl 2 q182 (Or.inl rfl) rfl dJ2_indexOf_4 ?_
  refine jt_pickP [0, 1, 2, 3, 4] [] rfl trivial (Φ' := [ow a 0 [.int mc, .ref arr, .int (iI ((ps.map Prod.fst).length : Int))], jA f arr ((1, 5), (ps.map Prod.fst).map Value.ref ++ junk), jEs "java/lang/Object" (ps.map Prod.fst), jPs jChr ps, jChr (o, x)]) rfl ?_
  refine jt_fold (A := [ow a 0 [.int mc, .ref arr, .int (iI ((ps.map Prod.fst).length : Int))], jA f arr ((1, 5), (ps.map Prod.fst).map Value.ref ++ junk), jEs "java/lang/Object" (ps.map Prod.fst)]) (P := AL G a (ps.map Prod.fst)) (AL_fold h1 h2 h3 rfl rfl) ?_
  show jT mJ2_indexOf l G _ _ _ X [AL G a (ps.map Prod.fst), jPs jChr ps, jChr (o, x)] 7 [(0, .ref a), (1, .ref o)] [.int (iI ((ps.map Prod.fst).length : Int)), .int (iI 0), .ref o, .ref a] _
  refine jt_cls 0 rfl AL_has ?_
  refine jr_callV [.ref o, .int (iI 0), .int (iI ((ps.map Prod.fst).length : Int))] (sp_AL_indexOfRange_Chr l G a ps o x) (rest := []) 0 rfl rfl rfl q913 q914 q915 q78 oJ2_indexOfRange pJ2_indexOfRange (by decide) (by decide) (Nat.le_of_ble_eq_true rfl) [1, 2, 3, 0, 2, 3] [2, 3] rfl ⟨⟨_, rfl, (jpers_Ps (fun x => by first | exact jpers_Int x | exact jpers_Chr x | exact jpers_Str x))⟩, ⟨⟨_, rfl, (jpers_Chr _)⟩, trivial⟩⟩ (Φr := [im a 0 [], jPs jChr ps, jChr (o, x)]) rfl (by first | omega | exact Nat.zero_le _) dJ2_indexOf_7 (fun v9 Ψ hq => ?_) (fun _ _ hq => hq.elim)
  obtain ⟨rfl, rfl⟩ := hq
  show jT mJ2_indexOf l G _ _ _ X [AL G a (ps.map Prod.fst), im a 0 [], jPs jChr ps, jChr (o, x)] 10 [(0, .ref a), (1, .ref o)] [.int (iI (jfi (fun q => decide (x = q.2)) ps))] _
  exact jr_zret dJ2_indexOf_10 rfl rfl (Ψ := [AL G a (ps.map Prod.fst)]) ⟨rfl, rfl⟩ (js_pickP [0] [] rfl trivial rfl)

theorem sp_AL_contains_Chr (l : Launch) (G : jG) (a : Nat) (ps : List (Nat × Nat)) (o : Nat) (x : Nat) : jS l G yJ2_contains mJ2_contains 6 [.ref a, .ref o] [AL G a (ps.map Prod.fst), jPs jChr ps, jChr (o, x)] (0) (jret (fun v9 Ψ => v9 = some (.int (jB (ps.any (fun q => decide (x = q.2))))) ∧ Ψ = [AL G a (ps.map Prod.fst)])) := by
  refine jS_of (plainFor_of_name (by decide)) rfl rfl rfl (Nat.le_of_ble_eq_true rfl) (fun X => ?_)
  show jT mJ2_contains l G _ _ _ X [AL G a (ps.map Prod.fst), jPs jChr ps, jChr (o, x)] 0 [(0, .ref a), (1, .ref o)] [] _
  have hfr := jfi_rg (fun q => decide (x = q.2)) ps
  refine jt_pure 0 rfl AL_len (fun hal => ?_)
  show jT mJ2_contains l G _ _ _ X [AL G a (ps.map Prod.fst), jPs jChr ps, jChr (o, x)] 0 [(0, .ref a), (1, .ref o)] [] _
  have hpl : (ps.map Prod.fst).length = ps.length := List.length_map _
  refine jlv_aload_n dJ2_contains_0 rfl 0 rfl ?_
  refine jlv_aload_n dJ2_contains_1 rfl 1 rfl ?_
  refine jt_cls 0 rfl AL_has ?_
  refine jr_callV [.ref o] (sp_AL_indexOf_Chr l G a ps o x) (rest := []) 0 rfl rfl rfl q909 q910 q911 q78 oJ2_indexOf pJ2_indexOf (by decide) (by decide) (Nat.le_of_ble_eq_true rfl) [1, 2, 3, 0, 2, 3] [2, 3] rfl ⟨⟨_, rfl, (jpers_Ps (fun x => by first | exact jpers_Int x | exact jpers_Chr x | exact jpers_Str x))⟩, ⟨⟨_, rfl, (jpers_Chr _)⟩, trivial⟩⟩ (Φr := [im a 0 [], jPs jChr ps, jChr (o, x)]) rfl (by first | omega | exact Nat.zero_le _) dJ2_contains_2 (fun v9 Ψ hq => ?_) (fun _ _ hq => hq.elim)
  obtain ⟨rfl, rfl⟩ := hq
  show jT mJ2_contains l G _ _ _ X [AL G a (ps.map Prod.fst), im a 0 [], jPs jChr ps, jChr (o, x)] 5 [(0, .ref a), (1, .ref o)] [.int (iI (jfi (fun q => decide (x = q.2)) ps))] _
  refine ji_if_lt 12 (by omega) dJ2_contains_5 (by decide) (fun h_148 => ?_) (fun h_148 => ?_)
  · skip
    refine jlv_iconst (v := iI 0) dJ2_contains_12 rfl ?_
    exact jr_zret dJ2_contains_13 rfl rfl (Ψ := [AL G a (ps.map Prod.fst)]) ⟨(by congr 2; first | exact jB_t (jfi_any.mp (by omega)) | exact jB_f (jfi_any0 (by omega))), rfl⟩ (js_pickP [0] [] rfl trivial rfl)
  · skip
    refine jlv_iconst (v := iI 1) dJ2_contains_8 rfl ?_
    refine jlv_goto (tgt := 13) dJ2_contains_9 (by decide) ?_
    exact jr_zret dJ2_contains_13 rfl rfl (Ψ := [AL G a (ps.map Prod.fst)]) ⟨(by congr 2; first | exact jB_t (jfi_any.mp (by omega)) | exact jB_f (jfi_any0 (by omega))), rfl⟩ (js_pickP [0] [] rfl trivial rfl)

