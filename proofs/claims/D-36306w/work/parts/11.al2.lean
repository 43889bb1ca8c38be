set_option maxRecDepth 100000
/-- the room after a growth -/
def alN (n : Nat) : Nat := if n = 0 then 10 else n + max 1 (n / 2)
theorem alN_spec (n : Nat) : (n = 0 → alN n = 10) ∧ (0 < n → alN n = n + max 1 (n / 2)) ∧ n < alN n ∧ alN n ≤ n + n / 2 + 10 := by
  unfold alN
  by_cases h : n = 0
  · subst h; simp
  · rw [if_neg h]; omega
theorem al_copy {vs : List Nat} {junk : List Value} {i : Nat} (h : i < vs.length) : (vs.map Value.ref ++ junk)[i]? = some .null ∨ ∃ (u r : Nat), (vs.map Value.ref ++ junk)[i]? = some (.ref r) ∧ vs[u]? = some r :=
  Or.inr ⟨i, vs[i], al_at (List.getElem?_eq_getElem h), List.getElem?_eq_getElem h⟩
abbrev mJ7_newLength : jM := (cJ7_newLength, RJ7, 4, (Option.some FieldType.int), "newLength", none)
theorem oJ7_newLength : jcode yJ7_newLength mJ7_newLength := q289
theorem pJ7_newLength : jpar yJ7_newLength 3 := ⟨by decide +kernel, by decide +kernel, by decide +kernel⟩
theorem sp_newLength (l : Launch) (G : jG) (o : Nat) (g : Nat) (r : Nat) (h1 : 0 < o + max g r) (h2 : o + max g r ≤ 1000000000) : jS l G yJ7_newLength mJ7_newLength 1 [.int (iI (o : Int)), .int (iI (g : Int)), .int (iI (r : Int))] [] (0) (jret (fun v9 Ψ => v9 = some (.int (iI ((o : Int) + ((max g r : Nat) : Int)))) ∧ Ψ = [])) := by
  refine jS_of (plainFor_of_name (by decide)) rfl rfl rfl (Nat.le_of_ble_eq_true rfl) (fun X => ?_)
  show jT mJ7_newLength l G _ _ _ X [] 0 [(0, .int (iI (o : Int))), (1, .int (iI (g : Int))), (2, .int (iI (r : Int)))] [] _
  refine jlv_iload_n dJ7_newLength_0 rfl 0 rfl ?_
  refine jlv_iload_n dJ7_newLength_1 rfl 1 rfl ?_
  refine jlv_iload_n dJ7_newLength_2 rfl 2 rfl ?_
  refine jr_mmax ((max g r : Nat) : Int) (by omega) (by omega) (by omega) q290 q291 q85 q292 (by decide) (Nat.le_of_ble_eq_true rfl) dJ7_newLength_3 ?_
  refine ji_iadd ((o : Int) + ((max g r : Nat) : Int)) (by omega) dJ7_newLength_6 ?_
  refine jlv_istore_n (lv' := [(3, .int (iI ((o : Int) + ((max g r : Nat) : Int)))), (0, .int (iI (o : Int))), (1, .int (iI (g : Int))), (2, .int (iI (r : Int)))]) dJ7_newLength_7 rfl (by decide) rfl ?_
  refine jlv_iconst (v := iI 0) dJ7_newLength_8 rfl ?_
  refine jlv_iload_n dJ7_newLength_9 rfl 0 rfl ?_
  refine ji_icmp_ge 21 (by omega) (by omega) dJ7_newLength_10 (by decide) (fun h_4 => ?_) (fun h_4 => ?_)
  · skip
    exact absurd h_4 (by omega)
  · skip
    refine jlv_iload_n dJ7_newLength_13 rfl 0 rfl ?_
    refine jlv_ldc (v := iI 2147483639) q293 dJ7_newLength_14 ?_
    refine ji_icmp_gt 21 (by omega) (by omega) dJ7_newLength_16 (by decide) (fun h_5 => ?_) (fun h_5 => ?_)
    · skip
      exact absurd h_5 (by omega)
    · skip
      refine jlv_iload_n dJ7_newLength_19 rfl 0 rfl ?_
      exact jr_zret dJ7_newLength_20 rfl rfl (Ψ := []) ⟨rfl, rfl⟩ (js_pickP [] [] rfl trivial rfl)

abbrev mJ9_copyOf_2 : jM := (cJ9_copyOf_2, RJ9, 4, (Option.some (FieldType.array (FieldType.object "java/lang/Object"))), "copyOf", none)
theorem oJ9_copyOf_2 : jcode yJ9_copyOf_2 mJ9_copyOf_2 := q357
theorem pJ9_copyOf_2 : jpar yJ9_copyOf_2 3 := ⟨by decide +kernel, by decide +kernel, by decide +kernel⟩
theorem sp_copyOfC (l : Launch) (G : jG) (f : Bool) (o : Nat) (vs : List Nat) (junk : List Value) (n : Nat) (hm : min (vs.length + junk.length) n = vs.length) (hn : n ≤ 1000000) (hl : vs.length + junk.length ≤ 1000000) : jS l G yJ9_copyOf_2 mJ9_copyOf_2 2 [.ref o, .int (iI (n : Int)), .ref (jKA G 1000)] [jA f o ((1, 5), vs.map Value.ref ++ junk), jEs "java/lang/Object" vs] ((n + 7) / 4) (jret (fun v9 Ψ => ∃ r : Nat, v9 = some (.ref r) ∧ Ψ = [jA f o ((1, 5), vs.map Value.ref ++ junk), jEs "java/lang/Object" vs, oa r 5 (vs.map Value.ref ++ List.replicate (n - vs.length) Value.null)])) := by
  refine jS_of (plainFor_of_name (by decide)) rfl rfl rfl (Nat.le_of_ble_eq_true rfl) (fun X => ?_)
  show jT mJ9_copyOf_2 l G _ _ _ X [jA f o ((1, 5), vs.map Value.ref ++ junk), jEs "java/lang/Object" vs] 0 [(0, .ref o), (1, .int (iI (n : Int))), (2, .ref (jKA G 1000))] [] _
  have hvn : vs.length ≤ n := by omega
  refine jlv_aload_n dJ9_copyOf_2_0 rfl 2 rfl ?_
  refine jr_ldcM q358 dJ9_copyOf_2_1 ?_
  refine jlv_acmp_ne (rx := (some (jKA G 1000))) (ry := (some (jKA G 1000))) (tgt := 13) dJ9_copyOf_2_3 (by decide) (fun h_6 => ?_) (fun h_6 => ?_)
  · skip
    exact absurd rfl h_6
  · skip
    refine jlv_iload_n dJ9_copyOf_2_6 rfl 1 rfl ?_
    refine jr_anew 5 rfl (E := "java/lang/Object") (List.mem_of_getElem? (i := 0) rfl) q360 (N := n) (iI_eqn (by omega) (by omega)) (by omega) (u := (n + 7) / 4) (by omega) (by omega) (by omega) dJ9_copyOf_2_7 (fun r => ?_)
    refine jlv_goto (tgt := 24) dJ9_copyOf_2_10 (by decide) ?_
    refine jlv_astore_n (lv' := [(3, .ref r), (0, .ref o), (1, .int (iI (n : Int))), (2, .ref (jKA G 1000))]) dJ9_copyOf_2_24 rfl (by decide) rfl ?_
    refine jlv_aload_n dJ9_copyOf_2_25 rfl 1 rfl ?_
    refine jlv_iconst (v := iI 0) dJ9_copyOf_2_26 rfl ?_
    refine jlv_aload_n dJ9_copyOf_2_27 rfl 0 rfl ?_
    refine jlv_iconst (v := iI 0) dJ9_copyOf_2_28 rfl ?_
    refine jlv_aload_n dJ9_copyOf_2_29 rfl 1 rfl ?_
    refine jr_alen 1 rfl (ty := .object "java/lang/Object") rfl dJ9_copyOf_2_30 (n := iI (((vs.length + junk.length) : Nat) : Int)) (by rw [show _ = _ from (al_len vs junk)]; rfl) ?_
    refine jlv_iload_n dJ9_copyOf_2_31 rfl 2 rfl ?_
    refine jr_mmin (vs.length : Int) (by omega) (by omega) (by omega) q361 q362 q85 q363 (by decide) (Nat.le_of_ble_eq_true rfl) dJ9_copyOf_2_32 ?_
    refine jr_copyq q364 q366 q365 q88 (by decide) 1 0 2 rfl rfl rfl (vs := (vs.map Value.ref ++ junk)) (ws := (List.replicate n Value.null)) (sp := 0) (dp := 0) (n := vs.length) (by decide) (by decide) (iI_eqn (by omega) (by omega)) (by first | omega | (simp only [List.length_append, List.length_map, List.length_replicate]; omega)) (by first | omega | (simp only [List.length_append, List.length_map, List.length_replicate]; omega)) (fun q hq => al_copy (by omega)) (Nat.le_of_ble_eq_true rfl) dJ9_copyOf_2_35 (Φ' := [oa r 5 (vs.map Value.ref ++ List.replicate (n - vs.length) Value.null), jA f o ((1, 5), vs.map Value.ref ++ junk), jEs "java/lang/Object" vs]) (by rw [jcpy_al hvn]; rfl) ?_
    refine jlv_aload_n dJ9_copyOf_2_38 rfl 0 rfl ?_
    exact jr_aret dJ9_copyOf_2_39 rfl (Or.inr ⟨_, rfl⟩) (Or.inr ⟨_, rfl⟩) (Ψ := [jA f o ((1, 5), vs.map Value.ref ++ junk), jEs "java/lang/Object" vs, oa r 5 (vs.map Value.ref ++ List.replicate (n - vs.length) Value.null)]) ⟨r, rfl, rfl⟩ (js_pickP [1, 2, 0] [] rfl trivial rfl)

abbrev mJ9_copyOf : jM := (cJ9_copyOf, RJ9, 2, (Option.some (FieldType.array (FieldType.object "java/lang/Object"))), "copyOf", none)
theorem oJ9_copyOf : jcode yJ9_copyOf mJ9_copyOf := q299
theorem pJ9_copyOf : jpar yJ9_copyOf 2 := ⟨by decide +kernel, by decide +kernel, by decide +kernel⟩
theorem sp_copyOf (l : Launch) (G : jG) (f : Bool) (o : Nat) (vs : List Nat) (junk : List Value) (n : Nat) (hm : min (vs.length + junk.length) n = vs.length) (hn : n ≤ 1000000) (hl : vs.length + junk.length ≤ 1000000) : jS l G yJ9_copyOf mJ9_copyOf 3 [.ref o, .int (iI (n : Int))] [jA f o ((1, 5), vs.map Value.ref ++ junk), jEs "java/lang/Object" vs] ((n + 7) / 4) (jret (fun v9 Ψ => ∃ r : Nat, v9 = some (.ref r) ∧ Ψ = [jA f o ((1, 5), vs.map Value.ref ++ junk), jEs "java/lang/Object" vs, oa r 5 (vs.map Value.ref ++ List.replicate (n - vs.length) Value.null)])) := by
  refine jS_of (plainFor_of_name (by decide)) rfl rfl rfl (Nat.le_of_ble_eq_true rfl) (fun X => ?_)
  show jT mJ9_copyOf l G _ _ _ X [jA f o ((1, 5), vs.map Value.ref ++ junk), jEs "java/lang/Object" vs] 0 [(0, .ref o), (1, .int (iI (n : Int)))] [] _
  refine jlv_aload_n dJ9_copyOf_0 rfl 0 rfl ?_
  refine jlv_iload_n dJ9_copyOf_1 rfl 1 rfl ?_
  refine jlv_aload_n dJ9_copyOf_2 rfl 0 rfl ?_
  refine jr_getC 0 rfl q300 q4392 q301 q354 (by decide) (Nat.le_of_ble_eq_true rfl) dJ9_copyOf_3 ?_
  refine jr_callS [.ref o, .int (iI (n : Int)), .ref (jKA G 1000)] (sp_copyOfC l G f o vs junk n (hm) (hn) (hl)) (rest := []) q355 q356 q86 oJ9_copyOf_2 pJ9_copyOf_2 (by decide) (by decide) (Nat.le_of_ble_eq_true rfl) [0, 1, 1] [1] rfl ⟨⟨_, rfl, jpers_Es⟩, trivial⟩ (Φr := [jEs "java/lang/Object" vs]) rfl (by first | omega | exact Nat.zero_le _) dJ9_copyOf_6 (fun v9 Ψ hq => ?_) (fun _ _ hq => hq.elim)
  obtain ⟨r, rfl, rfl⟩ := hq
  show jT mJ9_copyOf l G _ _ _ X [jA f o ((1, 5), vs.map Value.ref ++ junk), jEs "java/lang/Object" vs, oa r 5 (vs.map Value.ref ++ List.replicate (n - vs.length) Value.null), jEs "java/lang/Object" vs] 9 [(0, .ref o), (1, .int (iI (n : Int)))] [.ref r] _
  exact jr_aret dJ9_copyOf_9 rfl (Or.inr ⟨_, rfl⟩) (Or.inr ⟨_, rfl⟩) (Ψ := [jA f o ((1, 5), vs.map Value.ref ++ junk), jEs "java/lang/Object" vs, oa r 5 (vs.map Value.ref ++ List.replicate (n - vs.length) Value.null)]) ⟨r, rfl, rfl⟩ (js_pickP [0, 1, 2] [] rfl trivial rfl)

abbrev mJ2_grow_2 : jM := (cJ2_grow_2, RJ2, 4, (Option.some (FieldType.array (FieldType.object "java/lang/Object"))), "grow", none)
theorem oJ2_grow_2 : jcode yJ2_grow_2 mJ2_grow_2 := q286
theorem pJ2_grow_2 : jpar yJ2_grow_2 1 := ⟨by decide +kernel, by decide +kernel, by decide +kernel⟩
theorem sp_AL_growI (l : Launch) (G : jG) (a : Nat) (mc : Int32) (arr : Nat) (f : Bool) (vs : List Nat) (hl : vs.length ≤ 300000) (h2 : f = true → vs.length + ([] : List Value).length = 0 ∧ jSV G jiEmptyArr = .ref arr) (h3 : f = false → 0 < vs.length + ([] : List Value).length) : jS l G yJ2_grow_2 mJ2_grow_2 4 [.ref a, .int (iI ((vs.length : Int) + 1))] [ow a 0 [.int mc, .ref arr, .int (iI (vs.length : Int))], jA f arr ((1, 5), vs.map Value.ref ++ []), jEs "java/lang/Object" vs] ((alN vs.length + 7) / 4) (jret (fun v9 Ψ => ∃ r : Nat, v9 = some (.ref r) ∧ Ψ = [ow a 0 [.int mc, .ref r, .int (iI (vs.length : Int))], oa r 5 (vs.map Value.ref ++ List.replicate (alN vs.length - vs.length) Value.null), jEs "java/lang/Object" vs])) := by
  refine jS_of (plainFor_of_name (by decide)) rfl rfl rfl (Nat.le_of_ble_eq_true rfl) (fun X => ?_)
  show jT mJ2_grow_2 l G _ _ _ X [ow a 0 [.int mc, .ref arr, .int (iI (vs.length : Int))], jA f arr ((1, 5), vs.map Value.ref ++ []), jEs "java/lang/Object" vs] 0 [(0, .ref a), (1, .int (iI ((vs.length : Int) + 1)))] [] _
  refine jr_g0 (fun hg0 => ?_)
  obtain ⟨gi, ⟨gea, hgea, hgea2⟩, ⟨gem, hgem, hgem2⟩, ⟨gpr, hgpr, hgpr2⟩, ⟨gic, gicad, hgic, hgic2, hgic3⟩, ⟨gcc, gccad, hgcc, hgcc2, hgcc3⟩, grf, gks⟩ := hg0
  have hal := alN_spec vs.length
  refine jlv_aload_n dJ2_grow_2_0 rfl 0 rfl ?_
  refine jr_get 0 rfl rfl 1 q177 (Or.inl rfl) rfl dJ2_grow_2_1 ?_
  refine jr_alen 1 rfl (ty := .object "java/lang/Object") rfl dJ2_grow_2_4 (n := iI (vs.length : Int)) (by rw [show _ = _ from (al_len vs [])]; rfl) ?_
  refine jlv_istore_n (lv' := [(2, .int (iI (vs.length : Int))), (0, .ref a), (1, .int (iI ((vs.length : Int) + 1)))]) dJ2_grow_2_5 rfl (by decide) rfl ?_
  refine jlv_iload_n dJ2_grow_2_6 rfl 0 rfl ?_
  refine ji_if_gt 20 (by omega) dJ2_grow_2_7 (by decide) (fun h_7 => ?_) (fun h_7 => ?_)
  · skip
    refine jlv_iload_n dJ2_grow_2_20 rfl 0 rfl ?_
    refine jlv_iload_n dJ2_grow_2_21 rfl 2 rfl ?_
    refine jlv_iload_n dJ2_grow_2_22 rfl 0 rfl ?_
    refine ji_isub 1 (by omega) dJ2_grow_2_23 ?_
    refine jlv_iload_n dJ2_grow_2_24 rfl 0 rfl ?_
    refine jlv_iconst (v := iI 1) dJ2_grow_2_25 rfl ?_
    skip
    refine jlv_ishr dJ2_grow_2_26 ?_
    rw [iI_shr1 (n := vs.length) (by omega)]
    refine jr_callS [.int (iI (vs.length : Int)), .int (iI 1), .int (iI ((vs.length / 2 : Nat) : Int))] (sp_newLength l G vs.length 1 (vs.length / 2) (by omega) (by omega)) (rest := []) q287 q288 q84 oJ7_newLength pJ7_newLength (by decide) (by decide) (Nat.le_of_ble_eq_true rfl) [0, 1, 2] [] rfl trivial (Φr := [ow a 0 [.int mc, .ref arr, .int (iI (vs.length : Int))], jA f arr ((1, 5), vs.map Value.ref ++ []), jEs "java/lang/Object" vs]) rfl (by first | omega | exact Nat.zero_le _) dJ2_grow_2_27 (fun v9 Ψ hq => ?_) (fun _ _ hq => hq.elim)
    obtain ⟨rfl, rfl⟩ := hq
    show jT mJ2_grow_2 l G _ _ _ X [ow a 0 [.int mc, .ref arr, .int (iI (vs.length : Int))], jA f arr ((1, 5), vs.map Value.ref ++ []), jEs "java/lang/Object" vs] 30 [(2, .int (iI (vs.length : Int))), (0, .ref a), (1, .int (iI ((vs.length : Int) + 1)))] [.int (iI ((vs.length : Int) + ((max 1 (vs.length / 2) : Nat) : Int)))] _
    refine jt_eq (st' := [.int (iI ((alN vs.length : Nat) : Int))]) (lv' := [(2, .int (iI (vs.length : Int))), (0, .ref a), (1, .int (iI ((vs.length : Int) + 1)))]) (by rw [hal.2.1 (by omega)]; rfl) rfl ?_
    refine jlv_istore_n (lv' := [(3, .int (iI ((alN vs.length : Nat) : Int))), (2, .int (iI (vs.length : Int))), (0, .ref a), (1, .int (iI ((vs.length : Int) + 1)))]) dJ2_grow_2_30 rfl (by decide) rfl ?_
    refine jlv_aload_n dJ2_grow_2_31 rfl 2 rfl ?_
    refine jlv_aload_n dJ2_grow_2_32 rfl 2 rfl ?_
    refine jr_get 0 rfl rfl 1 q177 (Or.inl rfl) rfl dJ2_grow_2_33 ?_
    refine jlv_iload_n dJ2_grow_2_36 rfl 0 rfl ?_
    refine jr_callS [.ref arr, .int (iI ((alN vs.length : Nat) : Int))] (sp_copyOf l G f arr vs [] (alN vs.length) (by simp; omega) (by omega) (by simp; omega)) (rest := [.ref a]) q297 q298 q86 oJ9_copyOf pJ9_copyOf (by decide) (by decide) (Nat.le_of_ble_eq_true rfl) [1, 2, 0, 2] [2] rfl ⟨⟨_, rfl, jpers_Es⟩, trivial⟩ (Φr := [ow a 0 [.int mc, .ref arr, .int (iI (vs.length : Int))], jEs "java/lang/Object" vs]) rfl (by first | omega | exact Nat.zero_le _) dJ2_grow_2_37 (fun v9 Ψ hq => ?_) (fun _ _ hq => hq.elim)
    obtain ⟨r, rfl, rfl⟩ := hq
    show jT mJ2_grow_2 l G _ _ _ X [jA f arr ((1, 5), vs.map Value.ref ++ []), jEs "java/lang/Object" vs, oa r 5 (vs.map Value.ref ++ List.replicate ((alN vs.length) - vs.length) Value.null), ow a 0 [.int mc, .ref arr, .int (iI (vs.length : Int))], jEs "java/lang/Object" vs] 40 [(3, .int (iI ((alN vs.length : Nat) : Int))), (2, .int (iI (vs.length : Int))), (0, .ref a), (1, .int (iI ((vs.length : Int) + 1)))] [.ref r, .ref a] _
    refine jlv_dup_x1 dJ2_grow_2_40 rfl rfl ?_
    refine jr_put 3 rfl rfl 1 q177 (Or.inl rfl) rfl rfl rfl rfl rfl dJ2_grow_2_41 (Φ' := [jA f arr ((1, 5), vs.map Value.ref ++ []), jEs "java/lang/Object" vs, oa r 5 (vs.map Value.ref ++ List.replicate ((alN vs.length) - vs.length) Value.null), ow a 0 [.int mc, .ref r, .int (iI (vs.length : Int))], jEs "java/lang/Object" vs]) rfl ?_
    exact jr_aret dJ2_grow_2_44 rfl (Or.inr ⟨_, rfl⟩) (Or.inr ⟨_, rfl⟩) (Ψ := [ow a 0 [.int mc, .ref r, .int (iI (vs.length : Int))], oa r 5 (vs.map Value.ref ++ List.replicate (alN vs.length - vs.length) Value.null), jEs "java/lang/Object" vs]) ⟨r, rfl, rfl⟩ (js_pickP [3, 2, 1] [] rfl trivial rfl)
  · skip
    refine jlv_aload_n dJ2_grow_2_10 rfl 1 rfl ?_
    refine jr_get 0 rfl rfl 1 q177 (Or.inl rfl) rfl dJ2_grow_2_11 ?_
    refine jr_getsV 7 rfl q175 hgea dJ2_grow_2_14 ?_
    refine jlv_acmp_eq (rx := (some arr)) (ry := (some gea)) (tgt := 45) dJ2_grow_2_17 (by decide) (fun h_8 => ?_) (fun h_8 => ?_)
    · skip
      refine jlv_aload_n dJ2_grow_2_45 rfl 1 rfl ?_
      refine ji_bipush (by decide) dJ2_grow_2_46 ?_
      refine jlv_iload_n dJ2_grow_2_48 rfl 2 rfl ?_
      refine jr_mmax 10 (by omega) (by omega) (by omega) q367 q291 q85 q292 (by decide) (Nat.le_of_ble_eq_true rfl) dJ2_grow_2_49 ?_
      refine jr_anew 5 rfl (E := "java/lang/Object") (List.mem_of_getElem? (i := 0) rfl) q368 (N := 10) (by decide) (by omega) (u := (alN vs.length + 7) / 4) (by omega) (by omega) (by omega) dJ2_grow_2_52 (fun r => ?_)
      refine jlv_dup_x1 dJ2_grow_2_55 rfl rfl ?_
      refine jr_put 1 rfl rfl 1 q177 (Or.inl rfl) rfl rfl rfl rfl rfl dJ2_grow_2_56 (Φ' := [oa r 5 (List.replicate 10 Value.null), ow a 0 [.int mc, .ref r, .int (iI (vs.length : Int))], jA f arr ((1, 5), vs.map Value.ref ++ []), jEs "java/lang/Object" vs]) rfl ?_
      have hz : vs = [] := List.length_eq_zero_iff.mp (by omega)
      subst hz
      exact jr_aret dJ2_grow_2_59 rfl (Or.inr ⟨_, rfl⟩) (Or.inr ⟨_, rfl⟩) (Ψ := _) ⟨r, rfl, rfl⟩ (js_pickP [1, 0, 3] [] rfl trivial rfl)
    · skip
      cases f with
      | true => exact absurd (congrArg some (Value.ref.inj ((h2 rfl).2.symm.trans hgea))) h_8
      | false => exact absurd (h3 rfl) (by simp only [List.length_nil]; omega)

abbrev mJ2_grow : jM := (cJ2_grow, RJ2, 1, (Option.some (FieldType.array (FieldType.object "java/lang/Object"))), "grow", none)
theorem oJ2_grow : jcode yJ2_grow mJ2_grow := q282
theorem pJ2_grow : jpar yJ2_grow 0 := ⟨by decide +kernel, by decide +kernel, by decide +kernel⟩
theorem sp_AL_grow (l : Launch) (G : jG) (a : Nat) (mc : Int32) (arr : Nat) (f : Bool) (vs : List Nat) (hl : vs.length ≤ 300000) (h2 : f = true → vs.length + ([] : List Value).length = 0 ∧ jSV G jiEmptyArr = .ref arr) (h3 : f = false → 0 < vs.length + ([] : List Value).length) : jS l G yJ2_grow mJ2_grow 5 [.ref a] [ow a 0 [.int mc, .ref arr, .int (iI (vs.length : Int))], jA f arr ((1, 5), vs.map Value.ref ++ []), jEs "java/lang/Object" vs] ((alN vs.length + 7) / 4) (jret (fun v9 Ψ => ∃ r : Nat, v9 = some (.ref r) ∧ Ψ = [ow a 0 [.int mc, .ref r, .int (iI (vs.length : Int))], oa r 5 (vs.map Value.ref ++ List.replicate (alN vs.length - vs.length) Value.null), jEs "java/lang/Object" vs])) := by
  refine jS_of (plainFor_of_name (by decide)) rfl rfl rfl (Nat.le_of_ble_eq_true rfl) (fun X => ?_)
  show jT mJ2_grow l G _ _ _ X [ow a 0 [.int mc, .ref arr, .int (iI (vs.length : Int))], jA f arr ((1, 5), vs.map Value.ref ++ []), jEs "java/lang/Object" vs] 0 [(0, .ref a)] [] _
  refine jlv_aload_n dJ2_grow_0 rfl 0 rfl ?_
  refine jlv_aload_n dJ2_grow_1 rfl 0 rfl ?_
  refine jr_get 0 rfl rfl 2 q182 (Or.inl rfl) rfl dJ2_grow_2 ?_
  refine jlv_iconst (v := iI 1) dJ2_grow_5 rfl ?_
  refine ji_iadd ((vs.length : Int) + 1) (by omega) dJ2_grow_6 ?_
  refine jr_callV [.int (iI ((vs.length : Int) + 1))] (sp_AL_growI l G a mc arr f vs (hl) (h2) (h3)) (rest := []) 0 rfl rfl rfl q283 q285 (lw_g (lw_at lw_ms 2 rfl) rfl) q78 oJ2_grow_2 pJ2_grow_2 (by decide) (by decide) (Nat.le_of_ble_eq_true rfl) [0, 1, 2, 2] [2] rfl ⟨⟨_, rfl, jpers_Es⟩, trivial⟩ (Φr := [jEs "java/lang/Object" vs]) rfl (by first | omega | exact Nat.zero_le _) dJ2_grow_7 (fun v9 Ψ hq => ?_) (fun _ _ hq => hq.elim)
  obtain ⟨r, rfl, rfl⟩ := hq
  show jT mJ2_grow l G _ _ _ X [ow a 0 [.int mc, .ref r, .int (iI (vs.length : Int))], oa r 5 (vs.map Value.ref ++ List.replicate (alN vs.length - vs.length) Value.null), jEs "java/lang/Object" vs, jEs "java/lang/Object" vs] 10 [(0, .ref a)] [.ref r] _
  exact jr_aret dJ2_grow_10 rfl (Or.inr ⟨_, rfl⟩) (Or.inr ⟨_, rfl⟩) (Ψ := [ow a 0 [.int mc, .ref r, .int (iI (vs.length : Int))], oa r 5 (vs.map Value.ref ++ List.replicate (alN vs.length - vs.length) Value.null), jEs "java/lang/Object" vs]) ⟨r, rfl, rfl⟩ (js_pickP [0, 1, 2] [] rfl trivial rfl)

