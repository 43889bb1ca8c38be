set_option maxRecDepth 100000
theorem al_erase0 {vs : List Nat} {junk : List Value} {i : Nat} (h : ¬ i < vs.length - 1) (hi : i < vs.length) : (vs.map Value.ref ++ junk).set (vs.length - 1) .null = (vs.eraseIdx i).map Value.ref ++ (Value.null :: junk) := by
  have e : i = vs.length - 1 := by omega
  subst e
  rw [List.set_append_left _ _ (by rw [List.length_map]; omega)]
  have h2 : vs.eraseIdx (vs.length - 1) = vs.take (vs.length - 1) := by
    rw [List.eraseIdx_eq_take_drop_succ, List.drop_of_length_le (by omega), List.append_nil]
  rw [h2]
  have h3 : (vs.map Value.ref).set (vs.length - 1) .null = (vs.map Value.ref).take (vs.length - 1) ++ [.null] := by
    rw [List.set_eq_take_append_cons_drop, if_pos (by rw [List.length_map]; omega), List.drop_of_length_le (by rw [List.length_map]; omega)]
  rw [h3, List.map_take, List.append_assoc]; rfl
theorem al_erase1 {vs : List Nat} {junk : List Value} {i : Nat} (hi : i < vs.length) : (jcpy (vs.map Value.ref ++ junk) (vs.map Value.ref ++ junk) (i + 1) i (vs.length - 1 - i)).set (vs.length - 1) .null = (vs.eraseIdx i).map Value.ref ++ (Value.null :: junk) := by
  apply List.ext_getElem?
  intro k
  have hl : (vs.eraseIdx i).length = vs.length - 1 := List.length_eraseIdx_of_lt hi
  have hj : (jcpy (vs.map Value.ref ++ junk) (vs.map Value.ref ++ junk) (i + 1) i (vs.length - 1 - i)).length = vs.length + junk.length := by
    simp only [jcpy, List.length_append, List.length_take, List.length_drop, List.length_map]; omega
  by_cases a1 : k = vs.length - 1
  · subst a1
    rw [List.getElem?_set_self (by rw [hj]; omega), List.getElem?_append_right (by rw [List.length_map, hl]; exact Nat.le_refl _), List.length_map, hl, Nat.sub_self]; rfl
  · rw [List.getElem?_set_ne (Ne.symm a1)]
    by_cases a2 : k < vs.length - 1
    · rw [List.getElem?_append_left (by rw [List.length_map, hl]; exact a2), List.getElem?_map, List.getElem?_eraseIdx]
      unfold jcpy
      by_cases a3 : k < i
      · rw [if_pos a3, List.getElem?_append_left (by rw [List.length_take, List.length_append, List.length_map]; omega), List.getElem?_take, if_pos a3, List.getElem?_append_left (by rw [List.length_map]; omega), List.getElem?_map]
      · rw [if_neg a3, List.getElem?_append_right (by rw [List.length_take, List.length_append, List.length_map]; omega), List.length_take, List.length_append, List.length_map, Nat.min_eq_left (by omega), List.getElem?_append_left (by rw [List.length_take, List.length_drop, List.length_append, List.length_map]; omega), List.getElem?_take, if_pos (by omega), List.getElem?_drop, List.getElem?_append_left (by rw [List.length_map]; omega), List.getElem?_map]
        congr 2; omega
    · rw [List.getElem?_append_right (by rw [List.length_map, hl]; omega), List.length_map, hl]
      unfold jcpy
      rw [List.getElem?_append_right (by rw [List.length_take, List.length_append, List.length_map]; omega), List.length_take, List.length_append, List.length_map, Nat.min_eq_left (by omega), List.getElem?_append_right (by rw [List.length_take, List.length_drop, List.length_append, List.length_map]; omega), List.length_take, List.length_drop, List.length_append, List.length_map, Nat.min_eq_left (by omega), List.getElem?_drop, List.getElem?_append_right (by rw [List.length_map]; omega), List.length_map]
      have e : k - (vs.length - 1) = (k - vs.length) + 1 := by omega
      rw [e, List.getElem?_cons_succ]
      congr 1; omega
abbrev mJ2_clear : jM := (cJ2_clear, RJ2, 4, (Option.none : Option FieldType), "clear", none)
theorem oJ2_clear : jcode yJ2_clear mJ2_clear := q834
theorem pJ2_clear : jpar yJ2_clear 0 := ⟨by decide +kernel, by decide +kernel, by decide +kernel⟩
theorem sp_AL_clear (l : Launch) (G : jG) (a : Nat) (vs : List Nat) : jS l G yJ2_clear mJ2_clear 1 [.ref a] [AL G a vs] (0) (jret (fun v9 Ψ => v9 = none ∧ Ψ = [AL G a []])) := by
  refine jS_of (plainFor_of_name (by decide)) rfl rfl rfl (Nat.le_of_ble_eq_true rfl) (fun X => ?_)
  show jT mJ2_clear l G _ _ _ X [AL G a vs] 0 [(0, .ref a)] [] _
  refine jt_open ?_
  rintro ⟨mc, arr, junk, f⟩ ⟨h1, h2, h3⟩
  try dsimp only at h1 h2 h3
  show jT mJ2_clear l G _ _ _ X [ow a 0 [.int mc, .ref arr, .int (iI (vs.length : Int))], jA f arr ((1, 5), vs.map Value.ref ++ junk), jEs "java/lang/Object" vs] 0 [(0, .ref a)] [] _
  refine jlv_aload_n dJ2_clear_0 rfl 0 rfl ?_
  refine jlv_dup dJ2_clear_1 rfl ?_
  refine jr_get 0 rfl rfl 0 q192 (Or.inr q185) rfl dJ2_clear_2 ?_
  refine jlv_iconst (v := iI 1) dJ2_clear_5 rfl ?_
  refine jlv_iadd dJ2_clear_6 ?_
  refine jr_put 0 rfl rfl 0 q192 (Or.inr q185) rfl rfl rfl rfl rfl dJ2_clear_7 (Φ' := [ow a 0 [.int (mc + (iI 1)), .ref arr, .int (iI (vs.length : Int))], jA f arr ((1, 5), vs.map Value.ref ++ junk), jEs "java/lang/Object" vs]) rfl ?_
  refine jlv_aload_n dJ2_clear_10 rfl 0 rfl ?_
  refine jr_get 0 rfl rfl 1 q177 (Or.inl rfl) rfl dJ2_clear_11 ?_
  refine jlv_astore_n (lv' := [(1, .ref arr), (0, .ref a)]) dJ2_clear_14 rfl (by decide) rfl ?_
  refine jlv_aload_n dJ2_clear_15 rfl 1 rfl ?_
  refine jr_get 0 rfl rfl 2 q182 (Or.inl rfl) rfl dJ2_clear_16 ?_
  refine jlv_istore_n (lv' := [(2, .int (iI (vs.length : Int))), (1, .ref arr), (0, .ref a)]) dJ2_clear_19 rfl (by decide) rfl ?_
  refine jlv_aload_n dJ2_clear_20 rfl 2 rfl ?_
  refine jlv_iconst (v := iI 0) dJ2_clear_21 rfl ?_
  refine jlv_dup_x1 dJ2_clear_22 rfl rfl ?_
  refine jr_put 0 rfl rfl 2 q182 (Or.inl rfl) rfl rfl rfl rfl rfl dJ2_clear_23 (Φ' := [ow a 0 [.int (mc + (iI 1)), .ref arr, .int (iI 0)], jA f arr ((1, 5), vs.map Value.ref ++ junk), jEs "java/lang/Object" vs]) rfl ?_
  refine jlv_istore_n (lv' := [(3, .int (iI 0)), (2, .int (iI (vs.length : Int))), (1, .ref arr), (0, .ref a)]) dJ2_clear_26 rfl (by decide) rfl ?_
  have loop_10 : ∀ (k_12 : Nat) (j : Nat) (Lx : List Value) (bb : Nat), vs.length - j < k_12 → (j ≤ vs.length) → (Lx.length = vs.length + junk.length) → jT mJ2_clear l G 1 (0) (jret (fun v9 Ψ => v9 = none ∧ Ψ = [AL G a []])) X [ow a 0 [.int (mc + iI 1), .ref arr, .int (iI 0)], jA f arr ((1, 5), Lx), jEs "java/lang/Object" vs] 27 [(3, .int (iI (j : Int))), (2, .int (iI (vs.length : Int))), (1, .ref arr), (0, .ref a)] [] bb := by
    intro k_12
    induction k_12 with
    | zero =>
      intro j Lx bb hm
      exact absurd hm (Nat.not_lt_zero _)
    | succ k_12 ih_11 =>
      intro j Lx bb hm hj hL
      refine jlv_iload_n dJ2_clear_27 rfl 0 rfl ?_
      refine jlv_iload_n dJ2_clear_28 rfl 1 rfl ?_
      refine ji_icmp_ge 42 (by omega) (by omega) dJ2_clear_29 (by decide) (fun h_13 => ?_) (fun h_13 => ?_)
      · skip
        refine jt_Es0 (E := "java/lang/Object") ?_
        refine jt_pickP [1, 2, 0, 3] [] rfl trivial (Φ' := [ow a 0 [.int (mc + iI 1), .ref arr, .int (iI 0)], jA f arr ((1, 5), Lx), jEs "java/lang/Object" [], jEs "java/lang/Object" vs]) rfl ?_
        refine jt_fold (A := [ow a 0 [.int (mc + iI 1), .ref arr, .int (iI 0)], jA f arr ((1, 5), Lx), jEs "java/lang/Object" []]) (P := AL G a []) (AL_fold (junk := Lx) (by simp only [List.length_nil]; omega) (fun q => ⟨by simp only [List.length_nil]; have := (h2 q).1; omega, (h2 q).2⟩) (fun q => by simp only [List.length_nil]; have := h3 q; omega) rfl rfl) ?_
        show jT mJ2_clear l G _ _ _ X [AL G a [], jEs "java/lang/Object" vs] 42 [(3, .int (iI (j : Int))), (2, .int (iI (vs.length : Int))), (1, .ref arr), (0, .ref a)] [] _
        exact jr_vret dJ2_clear_42 rfl (Ψ := [AL G a []]) ⟨rfl, rfl⟩ (js_pickP [0] [] rfl trivial rfl)
      · skip
        cases f with
        | true => exact absurd (h2 rfl).1 (by omega)
        | false =>
          refine jlv_aload_n dJ2_clear_32 rfl 2 rfl ?_
          refine jlv_iload_n dJ2_clear_33 rfl 0 rfl ?_
          refine jlv_null dJ2_clear_34 ?_
          refine jr_aastN 1 rfl (E := "java/lang/Object") rfl (n := j) (iI_nat (by omega)) (by first | omega | (simp only [List.length_append, List.length_map, List.length_replicate]; omega)) dJ2_clear_35 (Φ' := [ow a 0 [.int (mc + iI 1), .ref arr, .int (iI 0)], oa arr 5 (Lx.set j .null), jEs "java/lang/Object" vs]) rfl ?_
          refine ji_iinc (lv' := [(3, .int (iI ((j : Int) + 1))), (2, .int (iI (vs.length : Int))), (1, .ref arr), (0, .ref a)]) ((j : Int) + 1) (by omega) dJ2_clear_36 0 rfl (by decide) rfl ?_
          refine jlv_goto (tgt := 27) dJ2_clear_39 (by decide) ?_
          refine jt_pickP [0, 1, 2] [] rfl trivial (Φ' := [ow a 0 [.int (mc + iI 1), .ref arr, .int (iI 0)], jA false arr ((1, 5), (Lx.set j .null)), jEs "java/lang/Object" vs]) rfl ?_
          refine jt_lv [0, 1, 2, 3] (lv' := [(3, .int (iI ((j : Int) + 1))), (2, .int (iI (vs.length : Int))), (1, .ref arr), (0, .ref a)]) rfl ?_
          exact ih_11 (j + 1) (Lx.set j .null) _ (by omega) (by omega) (by rw [List.length_set]; exact hL)
  refine jt_pickP [0, 1, 2] [] rfl trivial (Φ' := [ow a 0 [.int (mc + iI 1), .ref arr, .int (iI 0)], jA f arr ((1, 5), (vs.map Value.ref ++ junk)), jEs "java/lang/Object" vs]) rfl ?_
  refine jt_lv [0, 1, 2, 3] (lv' := [(3, .int (iI 0)), (2, .int (iI (vs.length : Int))), (1, .ref arr), (0, .ref a)]) rfl ?_
  exact loop_10 _ 0 (vs.map Value.ref ++ junk) _ (Nat.lt_succ_self _) (Nat.zero_le _) (al_len vs junk)

abbrev mJ2_fastRemove : jM := (cJ2_fastRemove, RJ2, 4, (Option.none : Option FieldType), "fastRemove", none)
theorem oJ2_fastRemove : jcode yJ2_fastRemove mJ2_fastRemove := q2009
theorem pJ2_fastRemove : jpar yJ2_fastRemove 2 := ⟨by decide +kernel, by decide +kernel, by decide +kernel⟩
theorem sp_AL_fastRemove (l : Launch) (G : jG) (a : Nat) (mc : Int32) (arr : Nat) (vs : List Nat) (junk : List Value) (i : Nat) (hi : i < vs.length) (h1 : vs.length + junk.length ≤ 1000000) : jS l G yJ2_fastRemove mJ2_fastRemove 2 [.ref a, .ref arr, .int (iI (i : Int))] [ow a 0 [.int mc, .ref arr, .int (iI (vs.length : Int))], oa arr 5 (vs.map Value.ref ++ junk), jEs "java/lang/Object" vs] (0) (jret (fun v9 Ψ => v9 = none ∧ Ψ = [AL G a (vs.eraseIdx i)])) := by
  refine jS_of (plainFor_of_name (by decide)) rfl rfl rfl (Nat.le_of_ble_eq_true rfl) (fun X => ?_)
  show jT mJ2_fastRemove l G _ _ _ X [ow a 0 [.int mc, .ref arr, .int (iI (vs.length : Int))], oa arr 5 (vs.map Value.ref ++ junk), jEs "java/lang/Object" vs] 0 [(0, .ref a), (1, .ref arr), (2, .int (iI (i : Int)))] [] _
  refine jlv_aload_n dJ2_fastRemove_0 rfl 0 rfl ?_
  refine jlv_dup dJ2_fastRemove_1 rfl ?_
  refine jr_get 0 rfl rfl 0 q192 (Or.inr q185) rfl dJ2_fastRemove_2 ?_
  refine jlv_iconst (v := iI 1) dJ2_fastRemove_5 rfl ?_
  refine jlv_iadd dJ2_fastRemove_6 ?_
  refine jr_put 0 rfl rfl 0 q192 (Or.inr q185) rfl rfl rfl rfl rfl dJ2_fastRemove_7 (Φ' := [ow a 0 [.int (mc + (iI 1)), .ref arr, .int (iI (vs.length : Int))], oa arr 5 (vs.map Value.ref ++ junk), jEs "java/lang/Object" vs]) rfl ?_
  refine jlv_aload_n dJ2_fastRemove_10 rfl 0 rfl ?_
  refine jr_get 0 rfl rfl 2 q182 (Or.inl rfl) rfl dJ2_fastRemove_11 ?_
  refine jlv_iconst (v := iI 1) dJ2_fastRemove_14 rfl ?_
  refine ji_isub ((vs.length : Int) - 1) (by omega) dJ2_fastRemove_15 ?_
  refine jlv_dup dJ2_fastRemove_16 rfl ?_
  refine jlv_istore_n (lv' := [(3, .int (iI ((vs.length : Int) - 1))), (0, .ref a), (1, .ref arr), (2, .int (iI (i : Int)))]) dJ2_fastRemove_17 rfl (by decide) rfl ?_
  refine jlv_iload_n dJ2_fastRemove_18 rfl 3 rfl ?_
  refine ji_icmp_le 34 (by omega) (by omega) dJ2_fastRemove_19 (by decide) (fun h_14 => ?_) (fun h_14 => ?_)
  · skip
    refine jlv_aload_n dJ2_fastRemove_34 rfl 2 rfl ?_
    refine jlv_aload_n dJ2_fastRemove_35 rfl 1 rfl ?_
    refine jlv_iload_n dJ2_fastRemove_36 rfl 0 rfl ?_
    refine jlv_dup_x1 dJ2_fastRemove_37 rfl rfl ?_
    refine jr_put 0 rfl rfl 2 q182 (Or.inl rfl) rfl rfl rfl rfl rfl dJ2_fastRemove_38 (Φ' := [ow a 0 [.int (mc + (iI 1)), .ref arr, .int (iI ((vs.length : Int) - 1))], oa arr 5 (vs.map Value.ref ++ junk), jEs "java/lang/Object" vs]) rfl ?_
    refine jlv_null dJ2_fastRemove_41 ?_
    have hn1 : ((vs.length : Int) - 1) = ((vs.length - 1 : Nat) : Int) := by omega
    refine jt_eq (st' := [.null, .int (iI ((vs.length - 1 : Nat) : Int)), .ref arr]) (lv' := [(3, .int (iI ((vs.length : Int) - 1))), (0, .ref a), (1, .ref arr), (2, .int (iI (i : Int)))]) (by rw [hn1]) rfl ?_
    refine jr_aastN 1 rfl (E := "java/lang/Object") rfl (n := (vs.length - 1)) (iI_nat (by omega)) (by have := al_len vs junk; first | (rw [al_len vs junk]; simp only [List.length_append, List.length_map, List.length_cons] ; omega) | (simp only [jcpy, List.length_append, List.length_map, List.length_take, List.length_drop]; omega)) dJ2_fastRemove_42 (Φ' := [ow a 0 [.int (mc + (iI 1)), .ref arr, .int (iI ((vs.length : Int) - 1))], oa arr 5 ((vs.map Value.ref ++ junk).set (vs.length - 1) .null), jEs "java/lang/Object" vs]) rfl ?_
    refine jt_Es1 (vs.eraseIdx i) 2 rfl (fun y hy => List.mem_of_mem_eraseIdx hy) ?_
    have hel : (vs.eraseIdx i).length = vs.length - 1 := List.length_eraseIdx_of_lt hi
    refine jt_pickP [1, 2, 0, 3] [] rfl trivial (Φ' := [ow a 0 [.int (mc + iI 1), .ref arr, .int (iI ((vs.length : Int) - 1))], oa arr 5 ((vs.map Value.ref ++ junk).set (vs.length - 1) .null), jEs "java/lang/Object" (vs.eraseIdx i), jEs "java/lang/Object" vs]) rfl ?_
    refine jt_fold (A := [ow a 0 [.int (mc + iI 1), .ref arr, .int (iI ((vs.length : Int) - 1))], oa arr 5 ((vs.map Value.ref ++ junk).set (vs.length - 1) .null), jEs "java/lang/Object" (vs.eraseIdx i)]) (P := AL G a (vs.eraseIdx i)) (AL_fold (junk := Value.null :: junk) (by rw [hel, List.length_cons]; omega) (fun q => by cases q) (fun _ => by rw [hel, List.length_cons]; omega) (by rw [hel]; omega) (al_erase0 (by omega) hi)) ?_
    show jT mJ2_fastRemove l G _ _ _ X [AL G a (vs.eraseIdx i), jEs "java/lang/Object" vs] 43 [(3, .int (iI ((vs.length : Int) - 1))), (0, .ref a), (1, .ref arr), (2, .int (iI (i : Int)))] [] _
    exact jr_vret dJ2_fastRemove_43 rfl (Ψ := [AL G a (vs.eraseIdx i)]) ⟨rfl, rfl⟩ (js_pickP [0] [] rfl trivial rfl)
  · skip
    refine jlv_aload_n dJ2_fastRemove_22 rfl 2 rfl ?_
    refine jlv_iload_n dJ2_fastRemove_23 rfl 3 rfl ?_
    refine jlv_iconst (v := iI 1) dJ2_fastRemove_24 rfl ?_
    refine ji_iadd ((i : Int) + 1) (by omega) dJ2_fastRemove_25 ?_
    refine jlv_aload_n dJ2_fastRemove_26 rfl 2 rfl ?_
    refine jlv_iload_n dJ2_fastRemove_27 rfl 3 rfl ?_
    refine jlv_iload_n dJ2_fastRemove_28 rfl 0 rfl ?_
    refine jlv_iload_n dJ2_fastRemove_29 rfl 3 rfl ?_
    refine ji_isub ((vs.length : Int) - (i : Int) - 1) (by omega) dJ2_fastRemove_30 ?_
    refine jt_eq (st' := [.int (iI ((vs.length - 1 - i : Nat) : Int)), .int (iI (i : Int)), .ref arr, .int (iI ((i : Int) + 1)), .ref arr]) (lv' := [(3, .int (iI ((vs.length : Int) - 1))), (0, .ref a), (1, .ref arr), (2, .int (iI (i : Int)))]) (by rw [show (vs.length : Int) - (i : Int) - 1 = ((vs.length - 1 - i : Nat) : Int) by omega]) rfl ?_
    refine jr_copyq q692 q366 q365 q88 (by decide) 1 1 2 rfl rfl rfl (vs := (vs.map Value.ref ++ junk)) (ws := (vs.map Value.ref ++ junk)) (sp := (i + 1)) (dp := i) (n := (vs.length - 1 - i)) (iI_eqn (by omega) (by omega)) (iI_eqn (by omega) (by omega)) (iI_eqn (by omega) (by omega)) (by first | omega | (simp only [List.length_append, List.length_map, List.length_replicate]; omega)) (by first | omega | (simp only [List.length_append, List.length_map, List.length_replicate]; omega)) (fun q hq => al_copy (by omega)) (Nat.le_of_ble_eq_true rfl) dJ2_fastRemove_31 (Φ' := [ow a 0 [.int (mc + (iI 1)), .ref arr, .int (iI (vs.length : Int))], oa arr 5 (jcpy (vs.map Value.ref ++ junk) (vs.map Value.ref ++ junk) (i + 1) i (vs.length - 1 - i)), jEs "java/lang/Object" vs]) rfl ?_
    refine jlv_aload_n dJ2_fastRemove_34 rfl 2 rfl ?_
    refine jlv_aload_n dJ2_fastRemove_35 rfl 1 rfl ?_
    refine jlv_iload_n dJ2_fastRemove_36 rfl 0 rfl ?_
    refine jlv_dup_x1 dJ2_fastRemove_37 rfl rfl ?_
    refine jr_put 0 rfl rfl 2 q182 (Or.inl rfl) rfl rfl rfl rfl rfl dJ2_fastRemove_38 (Φ' := [ow a 0 [.int (mc + (iI 1)), .ref arr, .int (iI ((vs.length : Int) - 1))], oa arr 5 (jcpy (vs.map Value.ref ++ junk) (vs.map Value.ref ++ junk) (i + 1) i (vs.length - 1 - i)), jEs "java/lang/Object" vs]) rfl ?_
    refine jlv_null dJ2_fastRemove_41 ?_
    have hn1 : ((vs.length : Int) - 1) = ((vs.length - 1 : Nat) : Int) := by omega
    refine jt_eq (st' := [.null, .int (iI ((vs.length - 1 : Nat) : Int)), .ref arr]) (lv' := [(3, .int (iI ((vs.length : Int) - 1))), (0, .ref a), (1, .ref arr), (2, .int (iI (i : Int)))]) (by rw [hn1]) rfl ?_
    refine jr_aastN 1 rfl (E := "java/lang/Object") rfl (n := (vs.length - 1)) (iI_nat (by omega)) (by have := al_len vs junk; first | (rw [jcpy]; simp only [List.length_append, List.length_map, List.length_cons] ; omega) | (simp only [jcpy, List.length_append, List.length_map, List.length_take, List.length_drop]; omega)) dJ2_fastRemove_42 (Φ' := [ow a 0 [.int (mc + (iI 1)), .ref arr, .int (iI ((vs.length : Int) - 1))], oa arr 5 ((jcpy (vs.map Value.ref ++ junk) (vs.map Value.ref ++ junk) (i + 1) i (vs.length - 1 - i)).set (vs.length - 1) .null), jEs "java/lang/Object" vs]) rfl ?_
    refine jt_Es1 (vs.eraseIdx i) 2 rfl (fun y hy => List.mem_of_mem_eraseIdx hy) ?_
    have hel : (vs.eraseIdx i).length = vs.length - 1 := List.length_eraseIdx_of_lt hi
    refine jt_pickP [1, 2, 0, 3] [] rfl trivial (Φ' := [ow a 0 [.int (mc + iI 1), .ref arr, .int (iI ((vs.length : Int) - 1))], oa arr 5 ((jcpy (vs.map Value.ref ++ junk) (vs.map Value.ref ++ junk) (i + 1) i (vs.length - 1 - i)).set (vs.length - 1) .null), jEs "java/lang/Object" (vs.eraseIdx i), jEs "java/lang/Object" vs]) rfl ?_
    refine jt_fold (A := [ow a 0 [.int (mc + iI 1), .ref arr, .int (iI ((vs.length : Int) - 1))], oa arr 5 ((jcpy (vs.map Value.ref ++ junk) (vs.map Value.ref ++ junk) (i + 1) i (vs.length - 1 - i)).set (vs.length - 1) .null), jEs "java/lang/Object" (vs.eraseIdx i)]) (P := AL G a (vs.eraseIdx i)) (AL_fold (junk := Value.null :: junk) (by rw [hel, List.length_cons]; omega) (fun q => by cases q) (fun _ => by rw [hel, List.length_cons]; omega) (by rw [hel]; omega) (al_erase1 hi)) ?_
    show jT mJ2_fastRemove l G _ _ _ X [AL G a (vs.eraseIdx i), jEs "java/lang/Object" vs] 43 [(3, .int (iI ((vs.length : Int) - 1))), (0, .ref a), (1, .ref arr), (2, .int (iI (i : Int)))] [] _
    exact jr_vret dJ2_fastRemove_43 rfl (Ψ := [AL G a (vs.eraseIdx i)]) ⟨rfl, rfl⟩ (js_pickP [0] [] rfl trivial rfl)

abbrev mJ2_remove : jM := (cJ2_remove, RJ2, 4, (Option.some (FieldType.object "java/lang/Object")), "remove", none)
theorem oJ2_remove : jcode yJ2_remove mJ2_remove := q2005
theorem pJ2_remove : jpar yJ2_remove 1 := ⟨by decide +kernel, by decide +kernel, by decide +kernel⟩
theorem sp_AL_remove (l : Launch) (G : jG) (a : Nat) (vs : List Nat) (i : Nat) (v : Nat) (hv : vs[i]? = some v) : jS l G yJ2_remove mJ2_remove 3 [.ref a, .int (iI (i : Int))] [AL G a vs] (0) (jret (fun v9 Ψ => v9 = some (.ref v) ∧ Ψ = [AL G a (vs.eraseIdx i)])) := by
  refine jS_of (plainFor_of_name (by decide)) rfl rfl rfl (Nat.le_of_ble_eq_true rfl) (fun X => ?_)
  show jT mJ2_remove l G _ _ _ X [AL G a vs] 0 [(0, .ref a), (1, .int (iI (i : Int)))] [] _
  have hi := jlt hv
  refine jt_open ?_
  rintro ⟨mc, arr, junk, f⟩ ⟨h1, h2, h3⟩
  try dsimp only at h1 h2 h3
  show jT mJ2_remove l G _ _ _ X [ow a 0 [.int mc, .ref arr, .int (iI (vs.length : Int))], jA f arr ((1, 5), vs.map Value.ref ++ junk), jEs "java/lang/Object" vs] 0 [(0, .ref a), (1, .int (iI (i : Int)))] [] _
  cases f with
  | true => exact absurd (h2 rfl).1 (by omega)
  | false =>
    refine jlv_iload_n dJ2_remove_0 rfl 1 rfl ?_
    refine jlv_aload_n dJ2_remove_1 rfl 0 rfl ?_
    refine jr_get 0 rfl rfl 2 q182 (Or.inl rfl) rfl dJ2_remove_2 ?_
    refine jr_callS [.int (iI (i : Int)), .int (iI (vs.length : Int))] (sp_Objects_checkIndex l G i vs.length (hi) (by omega)) (rest := []) q1663 q1298 q116 oJ34_checkIndex pJ34_checkIndex (by decide) (by decide) (Nat.le_of_ble_eq_true rfl) [0, 1, 2] [] rfl trivial (Φr := [ow a 0 [.int mc, .ref arr, .int (iI (vs.length : Int))], oa arr 5 (vs.map Value.ref ++ junk), jEs "java/lang/Object" vs]) rfl (by first | omega | exact Nat.zero_le _) dJ2_remove_5 (fun v9 Ψ hq => ?_) (fun _ _ hq => hq.elim)
    obtain ⟨rfl, rfl⟩ := hq
    show jT mJ2_remove l G _ _ _ X [ow a 0 [.int mc, .ref arr, .int (iI (vs.length : Int))], oa arr 5 (vs.map Value.ref ++ junk), jEs "java/lang/Object" vs] 8 [(0, .ref a), (1, .int (iI (i : Int)))] [.int (iI (i : Int))] _
    refine jlv_pop dJ2_remove_8 rfl ?_
    refine jlv_aload_n dJ2_remove_9 rfl 0 rfl ?_
    refine jr_get 0 rfl rfl 1 q177 (Or.inl rfl) rfl dJ2_remove_10 ?_
    refine jlv_astore_n (lv' := [(2, .ref arr), (0, .ref a), (1, .int (iI (i : Int)))]) dJ2_remove_13 rfl (by decide) rfl ?_
    refine jlv_aload_n dJ2_remove_14 rfl 0 rfl ?_
    refine jlv_iload_n dJ2_remove_15 rfl 2 rfl ?_
    refine jr_aald 1 rfl (E := "java/lang/Object") rfl (n := i) (iI_nat (by omega)) (v := .ref v) (al_at hv) dJ2_remove_16 ?_
    refine jlv_astore_n (lv' := [(3, .ref v), (2, .ref arr), (0, .ref a), (1, .int (iI (i : Int)))]) dJ2_remove_17 rfl (by decide) rfl ?_
    refine jlv_aload_n dJ2_remove_18 rfl 2 rfl ?_
    refine jlv_aload_n dJ2_remove_19 rfl 1 rfl ?_
    refine jlv_iload_n dJ2_remove_20 rfl 3 rfl ?_
    refine jt_class 0 rfl (o' := ((0, 0), [])) rfl ?_
    refine jr_callV [.ref arr, .int (iI (i : Int))] (sp_AL_fastRemove l G a mc arr vs junk i (hi) (h1)) (rest := []) 0 rfl rfl rfl q2006 q2008 (lw_g (lw_at lw_ms 17 rfl) rfl) q78 oJ2_fastRemove pJ2_fastRemove (by decide) (by decide) (Nat.le_of_ble_eq_true rfl) [1, 2, 3, 0, 3] [3] rfl ⟨⟨_, rfl, jpers_Es⟩, trivial⟩ (Φr := [im a 0 [], jEs "java/lang/Object" vs]) rfl (by first | omega | exact Nat.zero_le _) dJ2_remove_21 (fun v9 Ψ hq => ?_) (fun _ _ hq => hq.elim)
    obtain ⟨rfl, rfl⟩ := hq
    show jT mJ2_remove l G _ _ _ X [AL G a (vs.eraseIdx i), im a 0 [], jEs "java/lang/Object" vs] 24 [(3, .ref v), (2, .ref arr), (0, .ref a), (1, .int (iI (i : Int)))] [] _
    refine jlv_aload_n dJ2_remove_24 rfl 0 rfl ?_
    exact jr_aret dJ2_remove_25 rfl (Or.inl ⟨_, rfl⟩) (Or.inr ⟨_, rfl⟩) (Ψ := [AL G a (vs.eraseIdx i)]) ⟨rfl, rfl⟩ (js_pickP [0] [] rfl trivial rfl)

abbrev mJ35_init : jM := (cJ35_init, RJ35, 2, (Option.none : Option FieldType), "<init>", none)
theorem oJ35_init : jcode yJ35_init mJ35_init := q1336
theorem pJ35_init : jpar yJ35_init 1 := ⟨by decide +kernel, by decide +kernel, by decide +kernel⟩
theorem sp_Itr_init (l : Launch) (G : jG) (a : Nat) (it : Nat) (vs : List Nat) : jS l G yJ35_init mJ35_init 2 [.ref it, .ref a] [AL G a vs, ow it 14 [.int (iI 0), .int (iI 0), .int (iI 0), .null]] (0) (jret (fun v9 Ψ => v9 = none ∧ Ψ = [ALit G a it 0 vs])) := by
  refine jS_of (plainFor_of_name (by decide)) rfl rfl rfl (Nat.le_of_ble_eq_true rfl) (fun X => ?_)
  show jT mJ35_init l G _ _ _ X [AL G a vs, ow it 14 [.int (iI 0), .int (iI 0), .int (iI 0), .null]] 0 [(0, .ref it), (1, .ref a)] [] _
  refine jt_open ?_
  rintro ⟨mc, arr, junk, f⟩ ⟨h1, h2, h3⟩
  try dsimp only at h1 h2 h3
  show jT mJ35_init l G _ _ _ X [ow a 0 [.int mc, .ref arr, .int (iI (vs.length : Int))], jA f arr ((1, 5), vs.map Value.ref ++ junk), jEs "java/lang/Object" vs, ow it 14 [.int (iI 0), .int (iI 0), .int (iI 0), .null]] 0 [(0, .ref it), (1, .ref a)] [] _
  refine jlv_aload_n dJ35_init_0 rfl 0 rfl ?_
  refine jlv_aload_n dJ35_init_1 rfl 1 rfl ?_
  refine jr_putF 3 rfl rfl 3 q1343 rfl rfl rfl rfl rfl rfl rfl dJ35_init_2 (Φ' := [ow a 0 [.int mc, .ref arr, .int (iI (vs.length : Int))], jA f arr ((1, 5), vs.map Value.ref ++ junk), jEs "java/lang/Object" vs, ow it 14 [.int (iI 0), .int (iI 0), .int (iI 0), .ref a]]) rfl ?_
  refine jlv_aload_n dJ35_init_5 rfl 0 rfl ?_
  refine jr_objInit q1337 q161 q162 (by decide) (Nat.le_of_ble_eq_true rfl) dJ35_init_6 ?_
  refine jlv_aload_n dJ35_init_9 rfl 0 rfl ?_
  refine jlv_iconst (v := iI (-1)) dJ35_init_10 rfl ?_
  refine jr_put 3 rfl rfl 1 q1341 (Or.inl rfl) rfl rfl rfl rfl rfl dJ35_init_11 (Φ' := [ow a 0 [.int mc, .ref arr, .int (iI (vs.length : Int))], jA f arr ((1, 5), vs.map Value.ref ++ junk), jEs "java/lang/Object" vs, ow it 14 [.int (iI 0), .int (iI (-1)), .int (iI 0), .ref a]]) rfl ?_
  refine jlv_aload_n dJ35_init_14 rfl 0 rfl ?_
  refine jlv_aload_n dJ35_init_15 rfl 0 rfl ?_
  refine jr_get 3 rfl rfl 3 q1343 (Or.inl rfl) rfl dJ35_init_16 ?_
  refine jr_get 0 rfl rfl 0 q184 (Or.inr q185) rfl dJ35_init_19 ?_
  refine jr_put 3 rfl rfl 2 q1342 (Or.inl rfl) rfl rfl rfl rfl rfl dJ35_init_22 (Φ' := [ow a 0 [.int mc, .ref arr, .int (iI (vs.length : Int))], jA f arr ((1, 5), vs.map Value.ref ++ junk), jEs "java/lang/Object" vs, ow it 14 [.int (iI 0), .int (iI (-1)), .int mc, .ref a]]) rfl ?_
  refine jt_pickP [0, 1, 2, 3] [] rfl trivial (Φ' := [ow a 0 [.int mc, .ref arr, .int (iI (vs.length : Int))], jA f arr ((1, 5), vs.map Value.ref ++ junk), jEs "java/lang/Object" vs, ow it 14 [.int (iI 0), .int (iI (-1)), .int mc, .ref a]]) rfl ?_
  refine jt_fold (A := [ow a 0 [.int mc, .ref arr, .int (iI (vs.length : Int))], jA f arr ((1, 5), vs.map Value.ref ++ junk), jEs "java/lang/Object" vs, ow it 14 [.int (iI 0), .int (iI (-1)), .int mc, .ref a]]) (P := ALit G a it 0 vs) (ALit_fold h1 h2 h3 (by rfl)) ?_
  show jT mJ35_init l G _ _ _ X [ALit G a it 0 vs] 25 [(0, .ref it), (1, .ref a)] [] _
  exact jr_vret dJ35_init_25 rfl (Ψ := [ALit G a it 0 vs]) ⟨rfl, rfl⟩ (js_pickP [0] [] rfl trivial rfl)

abbrev mJ2_iterator : jM := (cJ2_iterator, RJ2, 1, (Option.some (FieldType.object "java/util/Iterator")), "iterator", none)
theorem oJ2_iterator : jcode yJ2_iterator mJ2_iterator := q1331
theorem pJ2_iterator : jpar yJ2_iterator 0 := ⟨by decide +kernel, by decide +kernel, by decide +kernel⟩
theorem sp_AL_iterator (l : Launch) (G : jG) (a : Nat) (vs : List Nat) : jS l G yJ2_iterator mJ2_iterator 3 [.ref a] [AL G a vs] (1) (jret (fun v9 Ψ => ∃ it : Nat, v9 = some (.ref it) ∧ Ψ = [ALit G a it 0 vs])) := by
  refine jS_of (plainFor_of_name (by decide)) rfl rfl rfl (Nat.le_of_ble_eq_true rfl) (fun X => ?_)
  show jT mJ2_iterator l G _ _ _ X [AL G a vs] 0 [(0, .ref a)] [] _
  refine jr_new (k0 := 14) rfl q1332 q1333 q117 (fs := [.int (iI 0), .int (iI 0), .int (iI 0), .null]) rfl (u := 1) (by decide) (by decide) (by omega) dJ2_iterator_0 (fun it => ?_)
  refine jlv_dup dJ2_iterator_3 rfl ?_
  refine jlv_aload_n dJ2_iterator_4 rfl 0 rfl ?_
  refine jr_callI [.ref a] (sp_Itr_init l G a it vs) (rest := [.ref it]) rfl rfl rfl q1334 q1335 q117 oJ35_init pJ35_init (by decide) (by decide) (Nat.le_of_ble_eq_true rfl) [1, 0] [] rfl trivial (Φr := []) rfl (by first | omega | exact Nat.zero_le _) dJ2_iterator_5 (fun v9 Ψ hq => ?_) (fun _ _ hq => hq.elim)
  obtain ⟨rfl, rfl⟩ := hq
  show jT mJ2_iterator l G _ _ _ X [ALit G a it 0 vs] 8 [(0, .ref a)] [.ref it] _
  exact jr_aret dJ2_iterator_8 rfl (Or.inl ⟨_, rfl⟩) (Or.inr ⟨_, rfl⟩) (Ψ := [ALit G a it 0 vs]) ⟨it, rfl, rfl⟩ (js_pickP [0] [] rfl trivial rfl)

abbrev mJ35_hasNext : jM := (cJ35_hasNext, RJ35, 1, (Option.some FieldType.boolean), "hasNext", none)
theorem oJ35_hasNext : jcode yJ35_hasNext mJ35_hasNext := q1575
theorem pJ35_hasNext : jpar yJ35_hasNext 0 := ⟨by decide +kernel, by decide +kernel, by decide +kernel⟩
theorem sp_Itr_hasNext (l : Launch) (G : jG) (a : Nat) (it : Nat) (n : Nat) (vs : List Nat) (hn : n ≤ vs.length) : jS l G yJ35_hasNext mJ35_hasNext 1 [.ref it] [ALit G a it n vs] (0) (jret (fun v9 Ψ => v9 = some (.int (jB (decide (n < vs.length)))) ∧ Ψ = [ALit G a it n vs])) := by
  refine jS_of (plainFor_of_name (by decide)) rfl rfl rfl (Nat.le_of_ble_eq_true rfl) (fun X => ?_)
  show jT mJ35_hasNext l G _ _ _ X [ALit G a it n vs] 0 [(0, .ref it)] [] _
  refine jt_open ?_
  rintro ⟨mc, arr, junk, f, lr⟩ ⟨h1, h2, h3⟩
  try dsimp only at h1 h2 h3
  show jT mJ35_hasNext l G _ _ _ X [ow a 0 [.int mc, .ref arr, .int (iI (vs.length : Int))], jA f arr ((1, 5), vs.map Value.ref ++ junk), jEs "java/lang/Object" vs, ow it 14 [.int (iI (n : Int)), .int lr, .int mc, .ref a]] 0 [(0, .ref it)] [] _
  refine jlv_aload_n dJ35_hasNext_0 rfl 0 rfl ?_
  refine jr_get 3 rfl rfl 0 q1340 (Or.inl rfl) rfl dJ35_hasNext_1 ?_
  refine jlv_aload_n dJ35_hasNext_4 rfl 0 rfl ?_
  refine jr_get 3 rfl rfl 3 q1343 (Or.inl rfl) rfl dJ35_hasNext_5 ?_
  refine jr_getN 0 rfl rfl 2 (List.mem_of_getElem? (i := 1) rfl) (Or.inl rfl) rfl dJ35_hasNext_8 ?_
  refine ji_icmp_eq 18 (by omega) (by omega) dJ35_hasNext_11 (by decide) (fun h_15 => ?_) (fun h_15 => ?_)
  · skip
    refine jlv_iconst (v := iI 0) dJ35_hasNext_18 rfl ?_
    refine jt_pickP [0, 1, 2, 3] [] rfl trivial (Φ' := [ow a 0 [.int mc, .ref arr, .int (iI (vs.length : Int))], jA f arr ((1, 5), vs.map Value.ref ++ junk), jEs "java/lang/Object" vs, ow it 14 [.int (iI (n : Int)), .int lr, .int mc, .ref a]]) rfl ?_
    refine jt_fold (A := [ow a 0 [.int mc, .ref arr, .int (iI (vs.length : Int))], jA f arr ((1, 5), vs.map Value.ref ++ junk), jEs "java/lang/Object" vs, ow it 14 [.int (iI (n : Int)), .int lr, .int mc, .ref a]]) (P := ALit G a it n vs) (ALit_fold h1 h2 h3 rfl) ?_
    show jT mJ35_hasNext l G _ _ _ X [ALit G a it n vs] 19 [(0, .ref it)] [.int (iI 0)] _
    exact jr_zret dJ35_hasNext_19 rfl rfl (Ψ := [ALit G a it n vs]) ⟨(by congr 2; first | exact jB_t (by simp; omega) | exact jB_f (by simp; omega)), rfl⟩ (js_pickP [0] [] rfl trivial rfl)
  · skip
    refine jlv_iconst (v := iI 1) dJ35_hasNext_14 rfl ?_
    refine jlv_goto (tgt := 19) dJ35_hasNext_15 (by decide) ?_
    refine jt_pickP [0, 1, 2, 3] [] rfl trivial (Φ' := [ow a 0 [.int mc, .ref arr, .int (iI (vs.length : Int))], jA f arr ((1, 5), vs.map Value.ref ++ junk), jEs "java/lang/Object" vs, ow it 14 [.int (iI (n : Int)), .int lr, .int mc, .ref a]]) rfl ?_
    refine jt_fold (A := [ow a 0 [.int mc, .ref arr, .int (iI (vs.length : Int))], jA f arr ((1, 5), vs.map Value.ref ++ junk), jEs "java/lang/Object" vs, ow it 14 [.int (iI (n : Int)), .int lr, .int mc, .ref a]]) (P := ALit G a it n vs) (ALit_fold h1 h2 h3 rfl) ?_
    show jT mJ35_hasNext l G _ _ _ X [ALit G a it n vs] 19 [(0, .ref it)] [.int (iI 1)] _
    exact jr_zret dJ35_hasNext_19 rfl rfl (Ψ := [ALit G a it n vs]) ⟨(by congr 2; first | exact jB_t (by simp; omega) | exact jB_f (by simp; omega)), rfl⟩ (js_pickP [0] [] rfl trivial rfl)

abbrev mJ35_checkForComodification : jM := (cJ35_checkForComodification, RJ35, 1, (Option.none : Option FieldType), "checkForComodification", none)
theorem oJ35_checkForComodification : jcode yJ35_checkForComodification mJ35_checkForComodification := q1747
theorem pJ35_checkForComodification : jpar yJ35_checkForComodification 0 := ⟨by decide +kernel, by decide +kernel, by decide +kernel⟩
theorem sp_Itr_check (l : Launch) (G : jG) (it : Nat) (a : Nat) (n : Int) (lr : Int32) (mc : Int32) (arr : Nat) (z : Int32) : jS l G yJ35_checkForComodification mJ35_checkForComodification 1 [.ref it] [ow a 0 [.int mc, .ref arr, .int z], ow it 14 [.int (iI n), .int lr, .int mc, .ref a]] (0) (jret (fun v9 Ψ => v9 = none ∧ Ψ = [ow a 0 [.int mc, .ref arr, .int z], ow it 14 [.int (iI n), .int lr, .int mc, .ref a]])) := by
  refine jS_of (plainFor_of_name (by decide)) rfl rfl rfl (Nat.le_of_ble_eq_true rfl) (fun X => ?_)
  show jT mJ35_checkForComodification l G _ _ _ X [ow a 0 [.int mc, .ref arr, .int z], ow it 14 [.int (iI n), .int lr, .int mc, .ref a]] 0 [(0, .ref it)] [] _
  refine jlv_aload_n dJ35_checkForComodification_0 rfl 0 rfl ?_
  refine jr_get 1 rfl rfl 3 q1343 (Or.inl rfl) rfl dJ35_checkForComodification_1 ?_
  refine jr_get 0 rfl rfl 0 q184 (Or.inr q185) rfl dJ35_checkForComodification_4 ?_
  refine jlv_aload_n dJ35_checkForComodification_7 rfl 0 rfl ?_
  refine jr_get 1 rfl rfl 2 q1342 (Or.inl rfl) rfl dJ35_checkForComodification_8 ?_
  refine jlv_icmp_eq (tgt := 22) dJ35_checkForComodification_11 (by decide) (fun h_16 => ?_) (fun h_16 => ?_)
  · skip
    exact jr_vret dJ35_checkForComodification_22 rfl (Ψ := [ow a 0 [.int mc, .ref arr, .int z], ow it 14 [.int (iI n), .int lr, .int mc, .ref a]]) ⟨rfl, rfl⟩ (js_pickP [0, 1] [] rfl trivial rfl)
  · skip
    exact absurd rfl h_16

abbrev mJ35_next : jM := (cJ35_next, RJ35, 3, (Option.some (FieldType.object "java/lang/Object")), "next", none)
theorem oJ35_next : jcode yJ35_next mJ35_next := q1741
theorem pJ35_next : jpar yJ35_next 0 := ⟨by decide +kernel, by decide +kernel, by decide +kernel⟩
theorem sp_Itr_next (l : Launch) (G : jG) (a : Nat) (it : Nat) (n : Nat) (vs : List Nat) (v : Nat) (hv : vs[n]? = some v) : jS l G yJ35_next mJ35_next 2 [.ref it] [ALit G a it n vs] (0) (jret (fun v9 Ψ => v9 = some (.ref v) ∧ Ψ = [ALit G a it (n + 1) vs])) := by
  refine jS_of (plainFor_of_name (by decide)) rfl rfl rfl (Nat.le_of_ble_eq_true rfl) (fun X => ?_)
  show jT mJ35_next l G _ _ _ X [ALit G a it n vs] 0 [(0, .ref it)] [] _
  have hi := jlt hv
  refine jt_open ?_
  rintro ⟨mc, arr, junk, f, lr⟩ ⟨h1, h2, h3⟩
  try dsimp only at h1 h2 h3
  show jT mJ35_next l G _ _ _ X [ow a 0 [.int mc, .ref arr, .int (iI (vs.length : Int))], jA f arr ((1, 5), vs.map Value.ref ++ junk), jEs "java/lang/Object" vs, ow it 14 [.int (iI (n : Int)), .int lr, .int mc, .ref a]] 0 [(0, .ref it)] [] _
  refine jlv_aload_n dJ35_next_0 rfl 0 rfl ?_
  refine jr_callV [] (sp_Itr_check l G it a (n : Int) lr mc arr (iI (vs.length : Int))) (rest := []) 3 rfl rfl rfl q1742 q1743 q1744 q117 oJ35_checkForComodification pJ35_checkForComodification (by decide) (by decide) (Nat.le_of_ble_eq_true rfl) [0, 3, 1, 2] [] rfl trivial (Φr := [jA f arr ((1, 5), vs.map Value.ref ++ junk), jEs "java/lang/Object" vs]) rfl (by first | omega | exact Nat.zero_le _) dJ35_next_1 (fun v9 Ψ hq => ?_) (fun _ _ hq => hq.elim)
  obtain ⟨rfl, rfl⟩ := hq
  show jT mJ35_next l G _ _ _ X [ow a 0 [.int mc, .ref arr, .int (iI (vs.length : Int))], ow it 14 [.int (iI (n : Int)), .int lr, .int mc, .ref a], jA f arr ((1, 5), vs.map Value.ref ++ junk), jEs "java/lang/Object" vs] 4 [(0, .ref it)] [] _
  refine jlv_aload_n dJ35_next_4 rfl 0 rfl ?_
  refine jr_get 1 rfl rfl 0 q1340 (Or.inl rfl) rfl dJ35_next_5 ?_
  refine jlv_istore_n (lv' := [(1, .int (iI (n : Int))), (0, .ref it)]) dJ35_next_8 rfl (by decide) rfl ?_
  refine jlv_iload_n dJ35_next_9 rfl 0 rfl ?_
  refine jlv_aload_n dJ35_next_10 rfl 1 rfl ?_
  refine jr_get 1 rfl rfl 3 q1343 (Or.inl rfl) rfl dJ35_next_11 ?_
  refine jr_getN 0 rfl rfl 2 (List.mem_of_getElem? (i := 1) rfl) (Or.inl rfl) rfl dJ35_next_14 ?_
  refine ji_icmp_lt 28 (by omega) (by omega) dJ35_next_17 (by decide) (fun h_17 => ?_) (fun h_17 => ?_)
  · skip
    refine jlv_aload_n dJ35_next_28 rfl 1 rfl ?_
    refine jr_get 1 rfl rfl 3 q1343 (Or.inl rfl) rfl dJ35_next_29 ?_
    refine jr_get 0 rfl rfl 1 q178 (Or.inl rfl) rfl dJ35_next_32 ?_
    refine jlv_astore_n (lv' := [(2, .ref arr), (1, .int (iI (n : Int))), (0, .ref it)]) dJ35_next_35 rfl (by decide) rfl ?_
    refine jlv_iload_n dJ35_next_36 rfl 1 rfl ?_
    refine jlv_aload_n dJ35_next_37 rfl 0 rfl ?_
    refine jr_alen 2 rfl (ty := .object "java/lang/Object") rfl dJ35_next_38 (n := iI (((vs.length + junk.length) : Nat) : Int)) (by rw [show _ = _ from (al_len vs junk)]; rfl) ?_
    refine ji_icmp_lt 50 (by omega) (by omega) dJ35_next_39 (by decide) (fun h_18 => ?_) (fun h_18 => ?_)
    · skip
      refine jlv_aload_n dJ35_next_50 rfl 2 rfl ?_
      refine jlv_iload_n dJ35_next_51 rfl 1 rfl ?_
      refine jlv_iconst (v := iI 1) dJ35_next_52 rfl ?_
      refine ji_iadd ((n : Int) + 1) (by omega) dJ35_next_53 ?_
      refine jr_put 1 rfl rfl 0 q1340 (Or.inl rfl) rfl rfl rfl rfl rfl dJ35_next_54 (Φ' := [ow a 0 [.int mc, .ref arr, .int (iI (vs.length : Int))], ow it 14 [.int (iI ((n : Int) + 1)), .int lr, .int mc, .ref a], jA f arr ((1, 5), vs.map Value.ref ++ junk), jEs "java/lang/Object" vs]) rfl ?_
      refine jlv_aload_n dJ35_next_57 rfl 0 rfl ?_
      refine jlv_aload_n dJ35_next_58 rfl 2 rfl ?_
      refine jlv_iload_n dJ35_next_59 rfl 1 rfl ?_
      refine jlv_dup_x1 dJ35_next_60 rfl rfl ?_
      refine jr_put 1 rfl rfl 1 q1341 (Or.inl rfl) rfl rfl rfl rfl rfl dJ35_next_61 (Φ' := [ow a 0 [.int mc, .ref arr, .int (iI (vs.length : Int))], ow it 14 [.int (iI ((n : Int) + 1)), .int (iI (n : Int)), .int mc, .ref a], jA f arr ((1, 5), vs.map Value.ref ++ junk), jEs "java/lang/Object" vs]) rfl ?_
      refine jr_aald 2 rfl (E := "java/lang/Object") rfl (n := n) (iI_nat (by omega)) (v := .ref v) (al_at hv) dJ35_next_64 ?_
      refine jt_pickP [0, 2, 3, 1] [] rfl trivial (Φ' := [ow a 0 [.int mc, .ref arr, .int (iI (vs.length : Int))], jA f arr ((1, 5), vs.map Value.ref ++ junk), jEs "java/lang/Object" vs, ow it 14 [.int (iI ((n : Int) + 1)), .int (iI (n : Int)), .int mc, .ref a]]) rfl ?_
      refine jt_fold (A := [ow a 0 [.int mc, .ref arr, .int (iI (vs.length : Int))], jA f arr ((1, 5), vs.map Value.ref ++ junk), jEs "java/lang/Object" vs, ow it 14 [.int (iI ((n : Int) + 1)), .int (iI (n : Int)), .int mc, .ref a]]) (P := ALit G a it (n + 1) vs) (ALit_fold h1 h2 h3 rfl) ?_
      show jT mJ35_next l G _ _ _ X [ALit G a it (n + 1) vs] 65 [(2, .ref arr), (1, .int (iI (n : Int))), (0, .ref it)] [.ref v] _
      exact jr_aret dJ35_next_65 rfl (Or.inl ⟨_, rfl⟩) (Or.inr ⟨_, rfl⟩) (Ψ := [ALit G a it (n + 1) vs]) ⟨rfl, rfl⟩ (js_pickP [0] [] rfl trivial rfl)
    · skip
      exact absurd h_18 (by omega)
  · skip
    exact absurd h_17 (by omega)

