set_option maxRecDepth 100000
abbrev mJ2_add_2 : jM := (cJ2_add_2, RJ2, 4, (Option.none : Option FieldType), "add", none)
theorem oJ2_add_2 : jcode yJ2_add_2 mJ2_add_2 := q278
theorem pJ2_add_2 : jpar yJ2_add_2 3 := ⟨by decide +kernel, by decide +kernel, by decide +kernel⟩
theorem sp_AL_addP (l : Launch) (G : jG) (a : Nat) (mc : Int32) (arr : Nat) (f : Bool) (vs : List Nat) (junk : List Value) (v : Nat) (hl : vs.length ≤ 300000) (h1 : vs.length + junk.length ≤ 1000000) (h2 : f = true → vs.length + junk.length = 0 ∧ jSV G jiEmptyArr = .ref arr) (h3 : f = false → 0 < vs.length + junk.length) : jS l G yJ2_add_2 mJ2_add_2 6 [.ref a, .ref v, .ref arr, .int (iI (vs.length : Int))] [ow a 0 [.int mc, .ref arr, .int (iI (vs.length : Int))], jA f arr ((1, 5), vs.map Value.ref ++ junk), jEs "java/lang/Object" vs, jE "java/lang/Object" v] (addC vs.length) (jret (fun v9 Ψ => v9 = none ∧ Ψ = [AL G a (vs ++ [v])])) := by
  refine jS_of (plainFor_of_name (by decide)) rfl rfl rfl (Nat.le_of_ble_eq_true rfl) (fun X => ?_)
  show jT mJ2_add_2 l G _ _ _ X [ow a 0 [.int mc, .ref arr, .int (iI (vs.length : Int))], jA f arr ((1, 5), vs.map Value.ref ++ junk), jEs "java/lang/Object" vs, jE "java/lang/Object" v] 0 [(0, .ref a), (1, .ref v), (2, .ref arr), (3, .int (iI (vs.length : Int)))] [] _
  have hal := alN_spec vs.length
  have hac : (alN vs.length + 7) / 4 ≤ addC vs.length := by unfold addC; omega
  refine jlv_iload_n dJ2_add_2_0 rfl 3 rfl ?_
  refine jlv_aload_n dJ2_add_2_1 rfl 2 rfl ?_
  refine jr_alen 1 rfl (ty := .object "java/lang/Object") rfl dJ2_add_2_2 (n := iI (((vs.length + junk.length) : Nat) : Int)) (by rw [show _ = _ from (al_len vs junk)]; rfl) ?_
  refine ji_icmp_ne 11 (by omega) (by omega) dJ2_add_2_3 (by decide) (fun h_9 => ?_) (fun h_9 => ?_)
  · skip
    cases f with
    | true => exact absurd (h2 rfl).1 (by omega)
    | false =>
      refine jlv_aload_n dJ2_add_2_11 rfl 2 rfl ?_
      refine jlv_iload_n dJ2_add_2_12 rfl 3 rfl ?_
      refine jlv_aload_n dJ2_add_2_13 rfl 1 rfl ?_
      refine jr_aast 1 3 rfl (E := "java/lang/Object") rfl rfl rfl (n := vs.length) (iI_nat (by omega)) (by first | omega | (simp only [List.length_append, List.length_map, List.length_replicate]; omega)) dJ2_add_2_14 (Φ' := [ow a 0 [.int mc, .ref arr, .int (iI (vs.length : Int))], oa arr 5 ((vs.map Value.ref ++ junk).set vs.length (.ref v)), jEs "java/lang/Object" vs, jE "java/lang/Object" v]) rfl ?_
      refine jlv_aload_n dJ2_add_2_15 rfl 0 rfl ?_
      refine jlv_iload_n dJ2_add_2_16 rfl 3 rfl ?_
      refine jlv_iconst (v := iI 1) dJ2_add_2_17 rfl ?_
      refine ji_iadd ((vs.length : Int) + 1) (by omega) dJ2_add_2_18 ?_
      refine jr_put 0 rfl rfl 2 q182 (Or.inl rfl) rfl rfl rfl rfl rfl dJ2_add_2_19 (Φ' := [ow a 0 [.int mc, .ref arr, .int (iI ((vs.length : Int) + 1))], oa arr 5 ((vs.map Value.ref ++ junk).set vs.length (.ref v)), jEs "java/lang/Object" vs, jE "java/lang/Object" v]) rfl ?_
      refine jt_Es2 (vs ++ [v]) 2 3 rfl rfl (fun y hy => by rcases List.mem_append.mp hy with q | q; exact Or.inl q; exact Or.inr (List.mem_singleton.mp q)) ?_
      refine jt_pickP [1, 2, 0, 3, 4] [] rfl trivial (Φ' := [ow a 0 [.int mc, .ref arr, .int (iI ((vs.length : Int) + 1))], oa arr 5 ((vs.map Value.ref ++ junk).set vs.length (.ref v)), jEs "java/lang/Object" (vs ++ [v]), jEs "java/lang/Object" vs, jE "java/lang/Object" v]) rfl ?_
      refine jt_fold (A := [ow a 0 [.int mc, .ref arr, .int (iI ((vs.length : Int) + 1))], oa arr 5 ((vs.map Value.ref ++ junk).set vs.length (.ref v)), jEs "java/lang/Object" (vs ++ [v])]) (P := AL G a (vs ++ [v])) (AL_fold (junk := junk.drop 1) (by simp only [List.length_append, List.length_map, List.length_replicate, List.length_drop, List.length_cons, List.length_nil]; omega) (fun q => by cases q) (fun _ => (by simp only [List.length_append, List.length_map, List.length_replicate, List.length_drop, List.length_cons, List.length_nil]; omega)) (by simp) (al_add (by omega))) ?_
      show jT mJ2_add_2 l G _ _ _ X [AL G a (vs ++ [v]), jEs "java/lang/Object" vs, jE "java/lang/Object" v] 22 [(0, .ref a), (1, .ref v), (2, .ref arr), (3, .int (iI (vs.length : Int)))] [] _
      exact jr_vret dJ2_add_2_22 rfl (Ψ := [AL G a (vs ++ [v])]) ⟨rfl, rfl⟩ (js_pickP [0] [] rfl trivial rfl)
  · skip
    have hj : junk = [] := List.length_eq_zero_iff.mp (by omega)
    subst hj
    refine jlv_aload_n dJ2_add_2_6 rfl 0 rfl ?_
    refine jr_callV [] (sp_AL_grow l G a mc arr f vs (hl) (h2) (h3)) (rest := []) 0 rfl rfl rfl q279 q281 (lw_g (lw_at lw_ms 1 rfl) rfl) q78 oJ2_grow pJ2_grow (by decide) (by decide) (Nat.le_of_ble_eq_true rfl) [0, 1, 2, 2, 3] [2] rfl ⟨⟨_, rfl, jpers_Es⟩, trivial⟩ (Φr := [jEs "java/lang/Object" vs, jE "java/lang/Object" v]) rfl (by first | omega | exact Nat.zero_le _) dJ2_add_2_7 (fun v9 Ψ hq => ?_) (fun _ _ hq => hq.elim)
    obtain ⟨r, rfl, rfl⟩ := hq
    show jT mJ2_add_2 l G _ _ _ X [ow a 0 [.int mc, .ref r, .int (iI (vs.length : Int))], oa r 5 (vs.map Value.ref ++ List.replicate (alN vs.length - vs.length) Value.null), jEs "java/lang/Object" vs, jEs "java/lang/Object" vs, jE "java/lang/Object" v] 10 [(0, .ref a), (1, .ref v), (2, .ref arr), (3, .int (iI (vs.length : Int)))] [.ref r] _
    refine jlv_astore_n (lv' := [(2, .ref r), (0, .ref a), (1, .ref v), (3, .int (iI (vs.length : Int)))]) dJ2_add_2_10 rfl (by decide) rfl ?_
    refine jlv_aload_n dJ2_add_2_11 rfl 0 rfl ?_
    refine jlv_iload_n dJ2_add_2_12 rfl 3 rfl ?_
    refine jlv_aload_n dJ2_add_2_13 rfl 2 rfl ?_
    refine jr_aast 1 4 rfl (E := "java/lang/Object") rfl rfl rfl (n := vs.length) (iI_nat (by omega)) (by first | omega | (simp only [List.length_append, List.length_map, List.length_replicate]; omega)) dJ2_add_2_14 (Φ' := [ow a 0 [.int mc, .ref r, .int (iI (vs.length : Int))], oa r 5 ((vs.map Value.ref ++ (List.replicate (alN vs.length - vs.length) Value.null)).set vs.length (.ref v)), jEs "java/lang/Object" vs, jEs "java/lang/Object" vs, jE "java/lang/Object" v]) rfl ?_
    refine jlv_aload_n dJ2_add_2_15 rfl 1 rfl ?_
    refine jlv_iload_n dJ2_add_2_16 rfl 3 rfl ?_
    refine jlv_iconst (v := iI 1) dJ2_add_2_17 rfl ?_
    refine ji_iadd ((vs.length : Int) + 1) (by omega) dJ2_add_2_18 ?_
    refine jr_put 0 rfl rfl 2 q182 (Or.inl rfl) rfl rfl rfl rfl rfl dJ2_add_2_19 (Φ' := [ow a 0 [.int mc, .ref r, .int (iI ((vs.length : Int) + 1))], oa r 5 ((vs.map Value.ref ++ (List.replicate (alN vs.length - vs.length) Value.null)).set vs.length (.ref v)), jEs "java/lang/Object" vs, jEs "java/lang/Object" vs, jE "java/lang/Object" v]) rfl ?_
    refine jt_Es2 (vs ++ [v]) 2 4 rfl rfl (fun y hy => by rcases List.mem_append.mp hy with q | q; exact Or.inl q; exact Or.inr (List.mem_singleton.mp q)) ?_
    refine jt_pickP [1, 2, 0, 3, 4, 5] [] rfl trivial (Φ' := [ow a 0 [.int mc, .ref r, .int (iI ((vs.length : Int) + 1))], oa r 5 ((vs.map Value.ref ++ (List.replicate (alN vs.length - vs.length) Value.null)).set vs.length (.ref v)), jEs "java/lang/Object" (vs ++ [v]), jEs "java/lang/Object" vs, jEs "java/lang/Object" vs, jE "java/lang/Object" v]) rfl ?_
    refine jt_fold (A := [ow a 0 [.int mc, .ref r, .int (iI ((vs.length : Int) + 1))], oa r 5 ((vs.map Value.ref ++ (List.replicate (alN vs.length - vs.length) Value.null)).set vs.length (.ref v)), jEs "java/lang/Object" (vs ++ [v])]) (P := AL G a (vs ++ [v])) (AL_fold (junk := (List.replicate (alN vs.length - vs.length) Value.null).drop 1) (by simp only [List.length_append, List.length_map, List.length_replicate, List.length_drop, List.length_cons, List.length_nil]; omega) (fun q => by cases q) (fun _ => (by simp only [List.length_append, List.length_map, List.length_replicate, List.length_drop, List.length_cons, List.length_nil]; omega)) (by simp) (al_add (by rw [List.length_replicate]; omega))) ?_
    show jT mJ2_add_2 l G _ _ _ X [AL G a (vs ++ [v]), jEs "java/lang/Object" vs, jEs "java/lang/Object" vs, jE "java/lang/Object" v] 22 [(2, .ref r), (0, .ref a), (1, .ref v), (3, .int (iI (vs.length : Int)))] [] _
    exact jr_vret dJ2_add_2_22 rfl (Ψ := [AL G a (vs ++ [v])]) ⟨rfl, rfl⟩ (js_pickP [0] [] rfl trivial rfl)

abbrev mJ2_add : jM := (cJ2_add, RJ2, 2, (Option.some FieldType.boolean), "add", none)
theorem oJ2_add : jcode yJ2_add mJ2_add := q274
theorem pJ2_add : jpar yJ2_add 1 := ⟨by decide +kernel, by decide +kernel, by decide +kernel⟩
theorem sp_AL_add (l : Launch) (G : jG) (a : Nat) (vs : List Nat) (v : Nat) (hl : vs.length ≤ 300000) : jS l G yJ2_add mJ2_add 7 [.ref a, .ref v] [AL G a vs, jE "java/lang/Object" v] (addC vs.length) (jret (fun v9 Ψ => v9 = some (.int (iI 1)) ∧ Ψ = [AL G a (vs ++ [v])])) := by
  refine jS_of (plainFor_of_name (by decide)) rfl rfl rfl (Nat.le_of_ble_eq_true rfl) (fun X => ?_)
  show jT mJ2_add l G _ _ _ X [AL G a vs, jE "java/lang/Object" v] 0 [(0, .ref a), (1, .ref v)] [] _
  refine jt_open ?_
  rintro ⟨mc, arr, junk, f⟩ ⟨h1, h2, h3⟩
  try dsimp only at h1 h2 h3
  show jT mJ2_add l G _ _ _ X [ow a 0 [.int mc, .ref arr, .int (iI (vs.length : Int))], jA f arr ((1, 5), vs.map Value.ref ++ junk), jEs "java/lang/Object" vs, jE "java/lang/Object" v] 0 [(0, .ref a), (1, .ref v)] [] _
  refine jlv_aload_n dJ2_add_0 rfl 0 rfl ?_
  refine jlv_dup dJ2_add_1 rfl ?_
  refine jr_get 0 rfl rfl 0 q192 (Or.inr q185) rfl dJ2_add_2 ?_
  refine jlv_iconst (v := iI 1) dJ2_add_5 rfl ?_
  refine jlv_iadd dJ2_add_6 ?_
  refine jr_put 0 rfl rfl 0 q192 (Or.inr q185) rfl rfl rfl rfl rfl dJ2_add_7 (Φ' := [ow a 0 [.int (mc + (iI 1)), .ref arr, .int (iI (vs.length : Int))], jA f arr ((1, 5), vs.map Value.ref ++ junk), jEs "java/lang/Object" vs, jE "java/lang/Object" v]) rfl ?_
  refine jlv_aload_n dJ2_add_10 rfl 0 rfl ?_
  refine jlv_aload_n dJ2_add_11 rfl 1 rfl ?_
  refine jlv_aload_n dJ2_add_12 rfl 0 rfl ?_
  refine jr_get 0 rfl rfl 1 q177 (Or.inl rfl) rfl dJ2_add_13 ?_
  refine jlv_aload_n dJ2_add_16 rfl 0 rfl ?_
  refine jr_get 0 rfl rfl 2 q182 (Or.inl rfl) rfl dJ2_add_17 ?_
  refine jr_callV [.ref v, .ref arr, .int (iI (vs.length : Int))] (sp_AL_addP l G a (mc + iI 1) arr f vs junk v (hl) (h1) (h2) (h3)) (rest := []) 0 rfl rfl rfl q275 q277 (lw_g (lw_at lw_ms 0 rfl) rfl) q78 oJ2_add_2 pJ2_add_2 (by decide) (by decide) (Nat.le_of_ble_eq_true rfl) [0, 1, 2, 3, 2, 3] [2, 3] rfl ⟨⟨_, rfl, jpers_Es⟩, ⟨⟨_, rfl, jpers_E⟩, trivial⟩⟩ (Φr := [jEs "java/lang/Object" vs, jE "java/lang/Object" v]) rfl (by first | omega | exact Nat.zero_le _) dJ2_add_20 (fun v9 Ψ hq => ?_) (fun _ _ hq => hq.elim)
  obtain ⟨rfl, rfl⟩ := hq
  show jT mJ2_add l G _ _ _ X [AL G a (vs ++ [v]), jEs "java/lang/Object" vs, jE "java/lang/Object" v] 23 [(0, .ref a), (1, .ref v)] [] _
  refine jlv_iconst (v := iI 1) dJ2_add_23 rfl ?_
  exact jr_zret dJ2_add_24 rfl rfl (Ψ := [AL G a (vs ++ [v])]) ⟨rfl, rfl⟩ (js_pickP [0] [] rfl trivial rfl)

abbrev mJ2_set : jM := (cJ2_set, RJ2, 4, (Option.some (FieldType.object "java/lang/Object")), "set", none)
theorem oJ2_set : jcode yJ2_set mJ2_set := q2386
theorem pJ2_set : jpar yJ2_set 2 := ⟨by decide +kernel, by decide +kernel, by decide +kernel⟩
theorem sp_AL_set (l : Launch) (G : jG) (a : Nat) (vs : List Nat) (i : Nat) (v : Nat) (w : Nat) (hw : vs[i]? = some w) : jS l G yJ2_set mJ2_set 3 [.ref a, .int (iI (i : Int)), .ref v] [AL G a vs, jE "java/lang/Object" v] (0) (jret (fun v9 Ψ => v9 = some (.ref w) ∧ Ψ = [AL G a (vs.set i v)])) := by
  refine jS_of (plainFor_of_name (by decide)) rfl rfl rfl (Nat.le_of_ble_eq_true rfl) (fun X => ?_)
  show jT mJ2_set l G _ _ _ X [AL G a vs, jE "java/lang/Object" v] 0 [(0, .ref a), (1, .int (iI (i : Int))), (2, .ref v)] [] _
  have hi := jlt hw
  refine jt_open ?_
  rintro ⟨mc, arr, junk, f⟩ ⟨h1, h2, h3⟩
  try dsimp only at h1 h2 h3
  show jT mJ2_set l G _ _ _ X [ow a 0 [.int mc, .ref arr, .int (iI (vs.length : Int))], jA f arr ((1, 5), vs.map Value.ref ++ junk), jEs "java/lang/Object" vs, jE "java/lang/Object" v] 0 [(0, .ref a), (1, .int (iI (i : Int))), (2, .ref v)] [] _
  refine jlv_iload_n dJ2_set_0 rfl 1 rfl ?_
  refine jlv_aload_n dJ2_set_1 rfl 0 rfl ?_
  refine jr_get 0 rfl rfl 2 q182 (Or.inl rfl) rfl dJ2_set_2 ?_
  refine jr_callS [.int (iI (i : Int)), .int (iI (vs.length : Int))] (sp_Objects_checkIndex l G i vs.length (hi) (by omega)) (rest := []) q1663 q1298 q116 oJ34_checkIndex pJ34_checkIndex (by decide) (by decide) (Nat.le_of_ble_eq_true rfl) [0, 1, 2, 3] [] rfl trivial (Φr := [ow a 0 [.int mc, .ref arr, .int (iI (vs.length : Int))], jA f arr ((1, 5), vs.map Value.ref ++ junk), jEs "java/lang/Object" vs, jE "java/lang/Object" v]) rfl (by first | omega | exact Nat.zero_le _) dJ2_set_5 (fun v9 Ψ hq => ?_) (fun _ _ hq => hq.elim)
  obtain ⟨rfl, rfl⟩ := hq
  show jT mJ2_set l G _ _ _ X [ow a 0 [.int mc, .ref arr, .int (iI (vs.length : Int))], jA f arr ((1, 5), vs.map Value.ref ++ junk), jEs "java/lang/Object" vs, jE "java/lang/Object" v] 8 [(0, .ref a), (1, .int (iI (i : Int))), (2, .ref v)] [.int (iI (i : Int))] _
  refine jlv_pop dJ2_set_8 rfl ?_
  refine jlv_aload_n dJ2_set_9 rfl 0 rfl ?_
  refine jlv_iload_n dJ2_set_10 rfl 1 rfl ?_
  refine jt_pickP [0, 1, 2, 3] [] rfl trivial (Φ' := [ow a 0 [.int mc, .ref arr, .int (iI (vs.length : Int))], jA f arr ((1, 5), vs.map Value.ref ++ junk), jEs "java/lang/Object" vs, jE "java/lang/Object" v]) rfl ?_
  refine jt_fold (A := [ow a 0 [.int mc, .ref arr, .int (iI (vs.length : Int))], jA f arr ((1, 5), vs.map Value.ref ++ junk), jEs "java/lang/Object" vs]) (P := AL G a vs) (AL_fold h1 h2 h3 rfl rfl) ?_
  show jT mJ2_set l G _ _ _ X [AL G a vs, jE "java/lang/Object" v] 11 [(0, .ref a), (1, .int (iI (i : Int))), (2, .ref v)] [.int (iI (i : Int)), .ref a] _
  refine jt_cls 0 rfl AL_has ?_
  refine jr_callV [.int (iI (i : Int))] (sp_AL_elementData l G a vs i w (hw)) (rest := []) 0 rfl rfl rfl q1664 q1665 q1666 q78 oJ2_elementData pJ2_elementData (by decide) (by decide) (Nat.le_of_ble_eq_true rfl) [1, 0, 2] [] rfl trivial (Φr := [im a 0 [], jE "java/lang/Object" v]) rfl (by first | omega | exact Nat.zero_le _) dJ2_set_11 (fun v9 Ψ hq => ?_) (fun _ _ hq => hq.elim)
  obtain ⟨rfl, rfl⟩ := hq
  show jT mJ2_set l G _ _ _ X [AL G a vs, im a 0 [], jE "java/lang/Object" v] 14 [(0, .ref a), (1, .int (iI (i : Int))), (2, .ref v)] [.ref w] _
  refine jlv_astore_n (lv' := [(3, .ref w), (0, .ref a), (1, .int (iI (i : Int))), (2, .ref v)]) dJ2_set_14 rfl (by decide) rfl ?_
  refine jlv_aload_n dJ2_set_15 rfl 1 rfl ?_
  refine jt_open ?_
  rintro ⟨mc', arr', junk', f'⟩ ⟨h1', h2', h3'⟩
  try dsimp only at h1' h2' h3'
  show jT mJ2_set l G _ _ _ X [ow a 0 [.int mc', .ref arr', .int (iI (vs.length : Int))], jA f' arr' ((1, 5), vs.map Value.ref ++ junk'), jEs "java/lang/Object" vs, im a 0 [], jE "java/lang/Object" v] 16 [(3, .ref w), (0, .ref a), (1, .int (iI (i : Int))), (2, .ref v)] [.ref a] _
  refine jr_get 0 rfl rfl 1 q177 (Or.inl rfl) rfl dJ2_set_16 ?_
  refine jlv_iload_n dJ2_set_19 rfl 2 rfl ?_
  refine jlv_aload_n dJ2_set_20 rfl 3 rfl ?_
  cases f' with
  | true => exact absurd (h2' rfl).1 (by omega)
  | false =>
    refine jr_aast 1 4 rfl (E := "java/lang/Object") rfl rfl rfl (n := i) (iI_nat (by omega)) (by first | omega | (simp only [List.length_append, List.length_map, List.length_replicate]; omega)) dJ2_set_21 (Φ' := [ow a 0 [.int mc', .ref arr', .int (iI (vs.length : Int))], oa arr' 5 ((vs.map Value.ref ++ junk').set i (.ref v)), jEs "java/lang/Object" vs, im a 0 [], jE "java/lang/Object" v]) rfl ?_
    refine jlv_aload_n dJ2_set_22 rfl 0 rfl ?_
    refine jt_Es2 (vs.set i v) 2 4 rfl rfl (fun y hy => (List.mem_or_eq_of_mem_set hy)) ?_
    refine jt_pickP [1, 2, 0, 3, 4, 5] [] rfl trivial (Φ' := [ow a 0 [.int mc', .ref arr', .int (iI (vs.length : Int))], oa arr' 5 ((vs.map Value.ref ++ junk').set i (.ref v)), jEs "java/lang/Object" (vs.set i v), jEs "java/lang/Object" vs, im a 0 [], jE "java/lang/Object" v]) rfl ?_
    refine jt_fold (A := [ow a 0 [.int mc', .ref arr', .int (iI (vs.length : Int))], oa arr' 5 ((vs.map Value.ref ++ junk').set i (.ref v)), jEs "java/lang/Object" (vs.set i v)]) (P := AL G a (vs.set i v)) (AL_fold (junk := junk') (by rw [List.length_set]; exact h1') (fun q => by cases q) (fun _ => by rw [List.length_set]; exact h3' rfl) (by rw [List.length_set]) (al_set hi)) ?_
    show jT mJ2_set l G _ _ _ X [AL G a (vs.set i v), jEs "java/lang/Object" vs, im a 0 [], jE "java/lang/Object" v] 23 [(3, .ref w), (0, .ref a), (1, .int (iI (i : Int))), (2, .ref v)] [.ref w] _
    exact jr_aret dJ2_set_23 rfl (Or.inl ⟨_, rfl⟩) (Or.inr ⟨_, rfl⟩) (Ψ := [AL G a (vs.set i v)]) ⟨rfl, rfl⟩ (js_pickP [0] [] rfl trivial rfl)

