set_option maxRecDepth 100000
theorem jcpy_rq {vs : List Nat} {junk : List Value} {x n : Nat} (h : x + n ≤ vs.length) : jcpy (vs.map Value.ref ++ junk) (List.replicate n .null) x 0 n = ((vs.drop x).take n).map Value.ref := by
  unfold jcpy
  rw [List.take_zero, List.nil_append, List.drop_of_length_le (l := List.replicate n _) (by rw [List.length_replicate, Nat.zero_add]; exact Nat.le_refl _), List.append_nil, List.drop_append_of_le_length (by rw [List.length_map]; omega), List.take_append_of_le_length (by rw [List.length_drop, List.length_map]; omega), List.map_take, List.map_drop]
theorem al_copyx {vs : List Nat} {junk : List Value} {x q : Nat} (h : x + q < vs.length) : (vs.map Value.ref ++ junk)[x + q]? = some .null ∨ ∃ (u r : Nat), (vs.map Value.ref ++ junk)[x + q]? = some (.ref r) ∧ vs[u]? = some r := by
  obtain ⟨r, hr⟩ := l_get h
  exact Or.inr ⟨x + q, r, al_at hr, hr⟩
abbrev mJ9_copyOfRange_3 : jM := (cJ9_copyOfRange_3, RJ9, 6, (Option.some (FieldType.array (FieldType.object "java/lang/Object"))), "copyOfRange", none)
theorem oJ9_copyOfRange_3 : jcode yJ9_copyOfRange_3 mJ9_copyOfRange_3 := q1274
theorem pJ9_copyOfRange_3 : jpar yJ9_copyOfRange_3 4 := ⟨by decide +kernel, by decide +kernel, by decide +kernel⟩
theorem sp_copyRQC (l : Launch) (G : jG) (f : Bool) (o : Nat) (vs : List Nat) (junk : List Value) (x : Nat) (n : Nat) (hx : x + n ≤ vs.length) (hl : vs.length + junk.length ≤ 1000000) : jS l G yJ9_copyOfRange_3 mJ9_copyOfRange_3 2 [.ref o, .int (iI (x : Int)), .int (iI ((x : Int) + (n : Int))), .ref (jKA G 1000)] [jA f o ((1, 5), vs.map Value.ref ++ junk), jEs "java/lang/Object" vs] ((n + 7) / 4) (jret (fun v9 Ψ => ∃ r : Nat, v9 = some (.ref r) ∧ Ψ = [jA f o ((1, 5), vs.map Value.ref ++ junk), jEs "java/lang/Object" vs, oa r 5 (((vs.drop x).take n).map Value.ref)])) := by
  refine jS_of (plainFor_of_name (by decide)) rfl rfl rfl (Nat.le_of_ble_eq_true rfl) (fun X => ?_)
  show jT mJ9_copyOfRange_3 l G _ _ _ X [jA f o ((1, 5), vs.map Value.ref ++ junk), jEs "java/lang/Object" vs] 0 [(0, .ref o), (1, .int (iI (x : Int))), (2, .int (iI ((x : Int) + (n : Int)))), (3, .ref (jKA G 1000))] [] _
  refine jlv_iload_n dJ9_copyOfRange_3_0 rfl 2 rfl ?_
  refine jlv_iload_n dJ9_copyOfRange_3_1 rfl 1 rfl ?_
  refine ji_isub (n : Int) (by omega) dJ9_copyOfRange_3_2 ?_
  refine jlv_istore (lv' := [(4, .int (iI (n : Int))), (0, .ref o), (1, .int (iI (x : Int))), (2, .int (iI ((x : Int) + (n : Int)))), (3, .ref (jKA G 1000))]) dJ9_copyOfRange_3_3 (by decide) rfl ?_
  refine jlv_iload dJ9_copyOfRange_3_5 0 rfl ?_
  refine ji_if_ge 42 (by omega) dJ9_copyOfRange_3_7 (by decide) (fun h_171 => ?_) (fun h_171 => absurd h_171 (by omega))
  refine jlv_aload_n dJ9_copyOfRange_3_42 rfl 4 rfl ?_
  refine jr_ldcM q358 dJ9_copyOfRange_3_43 ?_
  refine jlv_acmp_ne (rx := (some (jKA G 1000))) (ry := (some (jKA G 1000))) (tgt := 56) dJ9_copyOfRange_3_45 (by decide) (fun h_172 => ?_) (fun h_172 => ?_)
  · skip
    exact absurd rfl h_172
  · skip
    refine jlv_iload dJ9_copyOfRange_3_48 0 rfl ?_
    refine jt_eq (st' := [.int (iI (n : Int))]) (lv' := [(4, .int (iI (n : Int))), (0, .ref o), (1, .int (iI (x : Int))), (2, .int (iI ((x : Int) + (n : Int)))), (3, .ref (jKA G 1000))]) (by first | rfl | rw [show (n : Int) = (n : Int) by omega]) rfl ?_
    refine jr_anew 5 rfl (E := "java/lang/Object") (List.mem_of_getElem? (i := 0) rfl) q360 (N := n) (iI_eqn (by omega) (by omega)) (by omega) (u := (n + 7) / 4) (by omega) (by omega) (by omega) dJ9_copyOfRange_3_50 (fun r => ?_)
    refine jlv_goto (tgt := 68) dJ9_copyOfRange_3_53 (by decide) ?_
    refine jlv_astore (lv' := [(5, .ref r), (4, .int (iI (n : Int))), (0, .ref o), (1, .int (iI (x : Int))), (2, .int (iI ((x : Int) + (n : Int)))), (3, .ref (jKA G 1000))]) dJ9_copyOfRange_3_68 (by decide) rfl ?_
    refine jlv_aload_n dJ9_copyOfRange_3_70 rfl 2 rfl ?_
    refine jlv_iload_n dJ9_copyOfRange_3_71 rfl 3 rfl ?_
    refine jlv_aload dJ9_copyOfRange_3_72 0 rfl ?_
    refine jlv_iconst (v := iI 0) dJ9_copyOfRange_3_74 rfl ?_
    refine jlv_aload_n dJ9_copyOfRange_3_75 rfl 2 rfl ?_
    refine jr_alen 1 rfl (ty := .object "java/lang/Object") rfl dJ9_copyOfRange_3_76 (n := iI (((vs.length + junk.length) : Nat) : Int)) (by rw [show _ = _ from (al_len vs junk)]; rfl) ?_
    refine jlv_iload_n dJ9_copyOfRange_3_77 rfl 3 rfl ?_
    refine ji_isub ((((vs.length + junk.length) : Nat) : Int) - (x : Int)) (by omega) dJ9_copyOfRange_3_78 ?_
    refine jlv_iload dJ9_copyOfRange_3_79 1 rfl ?_
    refine jr_mmin (n : Int) (by omega) (by omega) (by omega) q361 q362 q85 q363 (by decide) (Nat.le_of_ble_eq_true rfl) dJ9_copyOfRange_3_81 ?_
    refine jr_copyq q364 q366 q365 q88 (by decide) 1 0 2 rfl rfl rfl (vs := (vs.map Value.ref ++ junk)) (ws := (List.replicate n Value.null)) (sp := x) (dp := 0) (n := n) (iI_eqn (by omega) (by omega)) (by decide) (iI_eqn (by omega) (by omega)) (by first | omega | (simp only [List.length_append, List.length_map, List.length_replicate]; omega)) (by first | omega | (simp only [List.length_append, List.length_map, List.length_replicate]; omega)) (fun q hq => al_copyx (by omega)) (Nat.le_of_ble_eq_true rfl) dJ9_copyOfRange_3_84 (Φ' := [oa r 5 (((vs.drop x).take n).map Value.ref), jA f o ((1, 5), vs.map Value.ref ++ junk), jEs "java/lang/Object" vs]) (by rw [jcpy_rq (by omega)]; rfl) ?_
    refine jlv_aload dJ9_copyOfRange_3_87 0 rfl ?_
    exact jr_aret dJ9_copyOfRange_3_89 rfl (Or.inr ⟨_, rfl⟩) (Or.inr ⟨_, rfl⟩) (Ψ := [jA f o ((1, 5), vs.map Value.ref ++ junk), jEs "java/lang/Object" vs, oa r 5 (((vs.drop x).take n).map Value.ref)]) ⟨r, rfl, rfl⟩ (js_pickP [1, 2, 0] [] rfl trivial rfl)

abbrev mJ9_copyOfRange_2 : jM := (cJ9_copyOfRange_2, RJ9, 3, (Option.some (FieldType.array (FieldType.object "java/lang/Object"))), "copyOfRange", none)
theorem oJ9_copyOfRange_2 : jcode yJ9_copyOfRange_2 mJ9_copyOfRange_2 := q1271
theorem pJ9_copyOfRange_2 : jpar yJ9_copyOfRange_2 3 := ⟨by decide +kernel, by decide +kernel, by decide +kernel⟩
theorem sp_copyRQ (l : Launch) (G : jG) (f : Bool) (o : Nat) (vs : List Nat) (junk : List Value) (x : Nat) (n : Nat) (hx : x + n ≤ vs.length) (hl : vs.length + junk.length ≤ 1000000) : jS l G yJ9_copyOfRange_2 mJ9_copyOfRange_2 3 [.ref o, .int (iI (x : Int)), .int (iI ((x : Int) + (n : Int)))] [jA f o ((1, 5), vs.map Value.ref ++ junk), jEs "java/lang/Object" vs] ((n + 7) / 4) (jret (fun v9 Ψ => ∃ r : Nat, v9 = some (.ref r) ∧ Ψ = [jA f o ((1, 5), vs.map Value.ref ++ junk), jEs "java/lang/Object" vs, oa r 5 (((vs.drop x).take n).map Value.ref)])) := by
  refine jS_of (plainFor_of_name (by decide)) rfl rfl rfl (Nat.le_of_ble_eq_true rfl) (fun X => ?_)
  show jT mJ9_copyOfRange_2 l G _ _ _ X [jA f o ((1, 5), vs.map Value.ref ++ junk), jEs "java/lang/Object" vs] 0 [(0, .ref o), (1, .int (iI (x : Int))), (2, .int (iI ((x : Int) + (n : Int))))] [] _
  refine jlv_aload_n dJ9_copyOfRange_2_0 rfl 0 rfl ?_
  refine jlv_iload_n dJ9_copyOfRange_2_1 rfl 1 rfl ?_
  refine jlv_iload_n dJ9_copyOfRange_2_2 rfl 2 rfl ?_
  refine jlv_aload_n dJ9_copyOfRange_2_3 rfl 0 rfl ?_
  refine jr_getC 0 rfl q300 q4392 q301 q354 (by decide) (Nat.le_of_ble_eq_true rfl) dJ9_copyOfRange_2_4 ?_
  refine jr_callS [.ref o, .int (iI (x : Int)), .int (iI ((x : Int) + (n : Int))), .ref (jKA G 1000)] (sp_copyRQC l G f o vs junk x n (hx) (hl)) (rest := []) q1272 q1273 q86 oJ9_copyOfRange_3 pJ9_copyOfRange_3 (by decide) (by decide) (Nat.le_of_ble_eq_true rfl) [0, 1, 1] [1] rfl ⟨⟨_, rfl, jpers_Es⟩, trivial⟩ (Φr := [jEs "java/lang/Object" vs]) rfl (by first | omega | exact Nat.zero_le _) dJ9_copyOfRange_2_7 (fun v9 Ψ hq => ?_) (fun _ _ hq => hq.elim)
  obtain ⟨r, rfl, rfl⟩ := hq
  show jT mJ9_copyOfRange_2 l G _ _ _ X [jA f o ((1, 5), vs.map Value.ref ++ junk), jEs "java/lang/Object" vs, oa r 5 (((vs.drop x).take n).map Value.ref), jEs "java/lang/Object" vs] 10 [(0, .ref o), (1, .int (iI (x : Int))), (2, .int (iI ((x : Int) + (n : Int))))] [.ref r] _
  exact jr_aret dJ9_copyOfRange_2_10 rfl (Or.inr ⟨_, rfl⟩) (Or.inr ⟨_, rfl⟩) (Ψ := [jA f o ((1, 5), vs.map Value.ref ++ junk), jEs "java/lang/Object" vs, oa r 5 (((vs.drop x).take n).map Value.ref)]) ⟨r, rfl, rfl⟩ (js_pickP [0, 1, 2] [] rfl trivial rfl)

abbrev mJ28_toArray : jM := (cJ28_toArray, RJ28, 1, (Option.some (FieldType.array (FieldType.object "java/lang/Object"))), "toArray", none)
theorem oJ28_toArray : jcode yJ28_toArray mJ28_toArray := q1268
theorem pJ28_toArray : jpar yJ28_toArray 0 := ⟨by decide +kernel, by decide +kernel, by decide +kernel⟩
theorem sp_SL_toArray (l : Launch) (G : jG) (a : Nat) (s : Nat) (x : Nat) (n : Nat) (vs : List Nat) : jS l G yJ28_toArray mJ28_toArray 4 [.ref s] [ALsub G a s x n vs] ((n + 7) / 4) (jret (fun v9 Ψ => ∃ r : Nat, v9 = some (.ref r) ∧ Ψ = [ALsub G a s x n vs, oa r 5 (((vs.drop x).take n).map Value.ref), jEs "java/lang/Object" ((vs.drop x).take n)])) := by
  refine jS_of (plainFor_of_name (by decide)) rfl rfl rfl (Nat.le_of_ble_eq_true rfl) (fun X => ?_)
  show jT mJ28_toArray l G _ _ _ X [ALsub G a s x n vs] 0 [(0, .ref s)] [] _
  refine jt_open ?_
  rintro ⟨mc, arr, junk, f⟩ ⟨h1, h2, h3, h4⟩
  try dsimp only at h1 h2 h3 h4
  show jT mJ28_toArray l G _ _ _ X [ow a 0 [.int mc, .ref arr, .int (iI (vs.length : Int))], jA f arr ((1, 5), vs.map Value.ref ++ junk), jEs "java/lang/Object" vs, ow s 12 [.int mc, .ref a, .null, .int (iI (x : Int)), .int (iI (n : Int))]] 0 [(0, .ref s)] [] _
  refine jlv_aload_n dJ28_toArray_0 rfl 0 rfl ?_
  refine jr_callV [] (sp_SL_check l G s a mc arr (iI (vs.length : Int)) (x : Int) (n : Int)) (rest := []) 3 rfl rfl rfl q384 q386 (lw_g (lw_at lw_ms 3 rfl) rfl) q110 oJ28_checkForComodification pJ28_checkForComodification (by decide) (by decide) (Nat.le_of_ble_eq_true rfl) [0, 3, 1, 2] [] rfl trivial (Φr := [jA f arr ((1, 5), vs.map Value.ref ++ junk), jEs "java/lang/Object" vs]) rfl (by first | omega | exact Nat.zero_le _) dJ28_toArray_1 (fun v9 Ψ hq => ?_) (fun _ _ hq => hq.elim)
  obtain ⟨rfl, rfl⟩ := hq
  show jT mJ28_toArray l G _ _ _ X [ow a 0 [.int mc, .ref arr, .int (iI (vs.length : Int))], ow s 12 [.int mc, .ref a, .null, .int (iI (x : Int)), .int (iI (n : Int))], jA f arr ((1, 5), vs.map Value.ref ++ junk), jEs "java/lang/Object" vs] 4 [(0, .ref s)] [] _
  refine jlv_aload_n dJ28_toArray_4 rfl 0 rfl ?_
  refine jr_get 1 rfl rfl 1 q1066 (Or.inl rfl) rfl dJ28_toArray_5 ?_
  refine jr_get 0 rfl rfl 1 q180 (Or.inl rfl) rfl dJ28_toArray_8 ?_
  refine jlv_aload_n dJ28_toArray_11 rfl 0 rfl ?_
  refine jr_get 1 rfl rfl 3 q1069 (Or.inl rfl) rfl dJ28_toArray_12 ?_
  refine jlv_aload_n dJ28_toArray_15 rfl 0 rfl ?_
  refine jr_get 1 rfl rfl 3 q1069 (Or.inl rfl) rfl dJ28_toArray_16 ?_
  refine jlv_aload_n dJ28_toArray_19 rfl 0 rfl ?_
  refine jr_get 1 rfl rfl 4 q1071 (Or.inl rfl) rfl dJ28_toArray_20 ?_
  refine ji_iadd ((x : Int) + (n : Int)) (by omega) dJ28_toArray_23 ?_
  refine jr_callS [.ref arr, .int (iI (x : Int)), .int (iI ((x : Int) + (n : Int)))] (sp_copyRQ l G f arr vs junk x n (h4) (h1)) (rest := []) q1269 q1270 q86 oJ9_copyOfRange_2 pJ9_copyOfRange_2 (by decide) (by decide) (Nat.le_of_ble_eq_true rfl) [2, 3, 0, 1, 3] [3] rfl ⟨⟨_, rfl, jpers_Es⟩, trivial⟩ (Φr := [ow a 0 [.int mc, .ref arr, .int (iI (vs.length : Int))], ow s 12 [.int mc, .ref a, .null, .int (iI (x : Int)), .int (iI (n : Int))], jEs "java/lang/Object" vs]) rfl (by first | omega | exact Nat.zero_le _) dJ28_toArray_24 (fun v9 Ψ hq => ?_) (fun _ _ hq => hq.elim)
  obtain ⟨r, rfl, rfl⟩ := hq
  show jT mJ28_toArray l G _ _ _ X [jA f arr ((1, 5), vs.map Value.ref ++ junk), jEs "java/lang/Object" vs, oa r 5 (((vs.drop x).take n).map Value.ref), ow a 0 [.int mc, .ref arr, .int (iI (vs.length : Int))], ow s 12 [.int mc, .ref a, .null, .int (iI (x : Int)), .int (iI (n : Int))], jEs "java/lang/Object" vs] 27 [(0, .ref s)] [.ref r] _
  refine jt_Es1 ((vs.drop x).take n) 1 rfl (fun y hy => List.mem_of_mem_drop (List.mem_of_mem_take hy)) ?_
  refine jt_pickP [4, 1, 2, 5, 0, 3, 6] [] rfl trivial (Φ' := [ow a 0 [.int mc, .ref arr, .int (iI (vs.length : Int))], jA f arr ((1, 5), vs.map Value.ref ++ junk), jEs "java/lang/Object" vs, ow s 12 [.int mc, .ref a, .null, .int (iI (x : Int)), .int (iI (n : Int))], jEs "java/lang/Object" ((vs.drop x).take n), oa r 5 (((vs.drop x).take n).map Value.ref), jEs "java/lang/Object" vs]) rfl ?_
  refine jt_fold (A := [ow a 0 [.int mc, .ref arr, .int (iI (vs.length : Int))], jA f arr ((1, 5), vs.map Value.ref ++ junk), jEs "java/lang/Object" vs, ow s 12 [.int mc, .ref a, .null, .int (iI (x : Int)), .int (iI (n : Int))]]) (P := ALsub G a s x n vs) (ALsub_fold h1 h2 h3 h4) ?_
  show jT mJ28_toArray l G _ _ _ X [ALsub G a s x n vs, jEs "java/lang/Object" ((vs.drop x).take n), oa r 5 (((vs.drop x).take n).map Value.ref), jEs "java/lang/Object" vs] 27 [(0, .ref s)] [.ref r] _
  exact jr_aret dJ28_toArray_27 rfl (Or.inr ⟨_, rfl⟩) (Or.inr ⟨_, rfl⟩) (Ψ := [ALsub G a s x n vs, oa r 5 (((vs.drop x).take n).map Value.ref), jEs "java/lang/Object" ((vs.drop x).take n)]) ⟨r, rfl, rfl⟩ (js_pickP [0, 2, 1] [] rfl trivial rfl)

