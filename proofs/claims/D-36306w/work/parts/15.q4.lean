set_option maxRecDepth 100000
theorem jcpy_map {vs : List Nat} {n : Nat} (h : vs.length ≤ n) : jcpy (vs.map Value.ref) (List.replicate n .null) 0 0 vs.length = vs.map Value.ref ++ List.replicate (n - vs.length) .null := by
  have := jcpy_al (vs := vs) (junk := []) h
  rwa [List.append_nil] at this
theorem al_copy0 {vs : List Nat} {q : Nat} (h : q < vs.length) : (vs.map Value.ref)[0 + q]? = some .null ∨ ∃ (u r : Nat), (vs.map Value.ref)[0 + q]? = some (.ref r) ∧ vs[u]? = some r := by
  obtain ⟨r, hr⟩ := l_get h
  exact Or.inr ⟨q, r, by rw [Nat.zero_add, List.getElem?_map, hr]; rfl, hr⟩
theorem sp_AL_growE (l : Launch) (G : jG) (a : Nat) (mc : Int32) (arr : Nat) (m : Nat) (harr : jSV G jiEmptyArr = .ref arr) (hm : m ≤ 300000) : jS l G yJ2_grow_2 mJ2_grow_2 4 [.ref a, .int (iI (m : Int))] [ow a 0 [.int mc, .ref arr, .int (iI 0)], ia arr 5 []] ((max 10 m + 7) / 4) (jret (fun v9 Ψ => ∃ r : Nat, v9 = some (.ref r) ∧ Ψ = [ow a 0 [.int mc, .ref r, .int (iI 0)], oa r 5 (List.replicate (max 10 m) Value.null)])) := by
  refine jS_of (plainFor_of_name (by decide)) rfl rfl rfl (Nat.le_of_ble_eq_true rfl) (fun X => ?_)
  show jT mJ2_grow_2 l G _ _ _ X [ow a 0 [.int mc, .ref arr, .int (iI 0)], ia arr 5 []] 0 [(0, .ref a), (1, .int (iI (m : Int)))] [] _
  refine jr_g0 (fun hg0 => ?_)
  obtain ⟨gi, ⟨gea, hgea, hgea2⟩, ⟨gem, hgem, hgem2⟩, ⟨gpr, hgpr, hgpr2⟩, ⟨gic, gicad, hgic, hgic2, hgic3⟩, ⟨gcc, gccad, hgcc, hgcc2, hgcc3⟩, grf, gks⟩ := hg0
  have hge : gea = arr := by rw [hgea] at harr; injection harr
  subst hge
  show jT mJ2_grow_2 l G _ _ _ X [ow a 0 [.int mc, .ref gea, .int (iI 0)], ia gea 5 []] 0 [(0, .ref a), (1, .int (iI (m : Int)))] [] _
  refine jlv_aload_n dJ2_grow_2_0 rfl 0 rfl ?_
  refine jr_get 0 rfl rfl 1 q177 (Or.inl rfl) rfl dJ2_grow_2_1 ?_
  refine jr_alen 1 rfl (ty := .object "java/lang/Object") rfl dJ2_grow_2_4 (n := iI 0) (by rw [show _ = _ from (rfl : ([] : List Value).length = 0)]; rfl) ?_
  refine jlv_istore_n (lv' := [(2, .int (iI 0)), (0, .ref a), (1, .int (iI (m : Int)))]) dJ2_grow_2_5 rfl (by decide) rfl ?_
  refine jlv_iload_n dJ2_grow_2_6 rfl 0 rfl ?_
  refine ji_if_gt 20 (by decide) dJ2_grow_2_7 (by decide) (fun h_155 => absurd h_155 (by decide)) (fun h_155 => ?_)
  refine jlv_aload_n dJ2_grow_2_10 rfl 1 rfl ?_
  refine jr_get 0 rfl rfl 1 q177 (Or.inl rfl) rfl dJ2_grow_2_11 ?_
  refine jr_getsV 7 rfl q175 hgea dJ2_grow_2_14 ?_
  refine jlv_acmp_eq (rx := (some gea)) (ry := (some gea)) (tgt := 45) dJ2_grow_2_17 (by decide) (fun h_156 => ?_) (fun h_156 => absurd h_156 (fun q => q rfl))
  refine jlv_aload_n dJ2_grow_2_45 rfl 1 rfl ?_
  refine ji_bipush (by decide) dJ2_grow_2_46 ?_
  refine jlv_iload_n dJ2_grow_2_48 rfl 2 rfl ?_
  refine jr_mmax ((max 10 m : Nat) : Int) (by omega) (by omega) (by omega) q367 q291 q85 q292 (by decide) (Nat.le_of_ble_eq_true rfl) dJ2_grow_2_49 ?_
  refine jr_anew 5 rfl (E := "java/lang/Object") (List.mem_of_getElem? (i := 0) rfl) q368 (N := (max 10 m)) (iI_eqn (by omega) (by omega)) (by omega) (u := (max 10 m + 7) / 4) (by omega) (by omega) (by omega) dJ2_grow_2_52 (fun r => ?_)
  refine jlv_dup_x1 dJ2_grow_2_55 rfl rfl ?_
  refine jr_put 1 rfl rfl 1 q177 (Or.inl rfl) rfl rfl rfl rfl rfl dJ2_grow_2_56 (Φ' := [oa r 5 (List.replicate (max 10 m) Value.null), ow a 0 [.int mc, .ref r, .int (iI 0)], ia gea 5 []]) rfl ?_
  exact jr_aret dJ2_grow_2_59 rfl (Or.inr ⟨_, rfl⟩) (Or.inr ⟨_, rfl⟩) (Ψ := [ow a 0 [.int mc, .ref r, .int (iI 0)], oa r 5 (List.replicate (max 10 m) Value.null)]) ⟨r, rfl, rfl⟩ (js_pickP [1, 0] [] rfl trivial rfl)

abbrev mJ2_addAll : jM := (cJ2_addAll, RJ2, 6, (Option.some FieldType.boolean), "addAll", none)
theorem oJ2_addAll : jcode yJ2_addAll mJ2_addAll := q2484
theorem pJ2_addAll : jpar yJ2_addAll 1 := ⟨by decide +kernel, by decide +kernel, by decide +kernel⟩
theorem sp_AL_addAll0 (l : Launch) (G : jG) (a : Nat) (b : Nat) (vs : List Nat) (hl : vs.length ≤ 300000) : jS l G yJ2_addAll mJ2_addAll 5 [.ref a, .ref b] [AL0 G a, AL G b vs] ((vs.length + 7) / 4 + (max 10 vs.length + 7) / 4) (jret (fun v9 Ψ => v9 = some (.int (jB (decide (vs.length ≠ 0)))) ∧ Ψ = [AL G a vs, AL G b vs])) := by
  refine jS_of (plainFor_of_name (by decide)) rfl rfl rfl (Nat.le_of_ble_eq_true rfl) (fun X => ?_)
  show jT mJ2_addAll l G _ _ _ X [AL0 G a, AL G b vs] 0 [(0, .ref a), (1, .ref b)] [] _
  refine jlv_aload_n dJ2_addAll_0 rfl 1 rfl ?_
  refine jt_cls 1 rfl AL_has ?_
  refine jr_callF (x := ⟨"java/util/Collection", "toArray", "()[Ljava/lang/Object;"⟩) [] (sp_AL_toArray l G b vs) (rest := []) 0 rfl rfl (List.mem_of_getElem? (i := 4) rfl) q2486 q1261 q1259 q78 oJ2_toArray (show jpar ⟨"java/util/Collection", "toArray", "()[Ljava/lang/Object;"⟩ 0 from ⟨by decide +kernel, by decide +kernel, by decide +kernel⟩) (by decide) (by decide) (Nat.le_of_ble_eq_true rfl) [2, 0, 1] [] rfl trivial (Φr := [im b 0 [], AL0 G a]) rfl (by first | omega | exact Nat.zero_le _) dJ2_addAll_1 (fun v9 Ψ hq => ?_) (fun _ _ hq => hq.elim)
  obtain ⟨t, rfl, rfl⟩ := hq
  show jT mJ2_addAll l G _ _ _ X [AL G b vs, oa t 5 (vs.map Value.ref), jEs "java/lang/Object" vs, im b 0 [], AL0 G a] 6 [(0, .ref a), (1, .ref b)] [.ref t] _
  refine jlv_astore_n (lv' := [(2, .ref t), (0, .ref a), (1, .ref b)]) dJ2_addAll_6 rfl (by decide) rfl ?_
  refine jlv_aload_n dJ2_addAll_7 rfl 1 rfl ?_
  refine jlv_dup dJ2_addAll_8 rfl ?_
  refine jt_pickP [4, 0, 1, 2, 3] [] rfl trivial (Φ' := [AL0 G a, AL G b vs, oa t 5 (vs.map Value.ref), jEs "java/lang/Object" vs, im b 0 []]) rfl ?_
  refine jt_open ?_
  rintro arr0 harr0
  try dsimp only at harr0
  show jT mJ2_addAll l G _ _ _ X [ow a 0 [.int (iI 0), .ref arr0, .int (iI 0)], ia arr0 5 [], AL G b vs, oa t 5 (vs.map Value.ref), jEs "java/lang/Object" vs, im b 0 []] 9 [(2, .ref t), (0, .ref a), (1, .ref b)] [.ref a, .ref a] _
  refine jr_get 0 rfl rfl 0 q192 (Or.inr q185) rfl dJ2_addAll_9 ?_
  refine jlv_iconst (v := iI 1) dJ2_addAll_12 rfl ?_
  refine ji_iadd 1 (by omega) dJ2_addAll_13 ?_
  refine jr_put 0 rfl rfl 0 q192 (Or.inr q185) rfl rfl rfl rfl rfl dJ2_addAll_14 (Φ' := [ow a 0 [.int (iI 1), .ref arr0, .int (iI 0)], ia arr0 5 [], AL G b vs, oa t 5 (vs.map Value.ref), jEs "java/lang/Object" vs, im b 0 []]) rfl ?_
  refine jlv_aload_n dJ2_addAll_17 rfl 0 rfl ?_
  refine jr_alen 3 rfl (ty := .object "java/lang/Object") rfl dJ2_addAll_18 (n := iI (vs.length : Int)) (by rw [show _ = _ from List.length_map _]; rfl) ?_
  refine jlv_istore_n (lv' := [(3, .int (iI (vs.length : Int))), (2, .ref t), (0, .ref a), (1, .ref b)]) dJ2_addAll_19 rfl (by decide) rfl ?_
  refine jlv_iload_n dJ2_addAll_20 rfl 0 rfl ?_
  refine ji_if_ne 26 (by omega) dJ2_addAll_21 (by decide) (fun h_157 => ?_) (fun h_157 => ?_)
  · skip
    refine jlv_iload_n dJ2_addAll_26 rfl 0 rfl ?_
    refine jlv_aload_n dJ2_addAll_27 rfl 2 rfl ?_
    refine jr_get 0 rfl rfl 1 q177 (Or.inl rfl) rfl dJ2_addAll_28 ?_
    refine jlv_dup dJ2_addAll_31 rfl ?_
    refine jlv_astore (lv' := [(4, .ref arr0), (3, .int (iI (vs.length : Int))), (2, .ref t), (0, .ref a), (1, .ref b)]) dJ2_addAll_32 (by decide) rfl ?_
    refine jr_alen 1 rfl (ty := .object "java/lang/Object") rfl dJ2_addAll_34 (n := iI 0) (by rw [show _ = _ from (rfl : ([] : List Value).length = 0)]; rfl) ?_
    refine jlv_aload_n dJ2_addAll_35 rfl 3 rfl ?_
    refine jr_get 0 rfl rfl 2 q182 (Or.inl rfl) rfl dJ2_addAll_36 ?_
    refine jlv_dup dJ2_addAll_39 rfl ?_
    refine jlv_istore (lv' := [(5, .int (iI 0)), (4, .ref arr0), (3, .int (iI (vs.length : Int))), (2, .ref t), (0, .ref a), (1, .ref b)]) dJ2_addAll_40 (by decide) rfl ?_
    refine ji_isub 0 (by omega) dJ2_addAll_42 ?_
    refine ji_icmp_le 56 (by omega) (by omega) dJ2_addAll_43 (by decide) (fun h_158 => ?_) (fun h_158 => ?_)
    · skip
      exact absurd h_158 (by omega)
    · skip
      refine jlv_aload_n dJ2_addAll_46 rfl 4 rfl ?_
      refine jlv_iload dJ2_addAll_47 0 rfl ?_
      refine jlv_iload_n dJ2_addAll_49 rfl 2 rfl ?_
      refine ji_iadd (vs.length : Int) (by omega) dJ2_addAll_50 ?_
      refine jr_callV [.int (iI (vs.length : Int))] (sp_AL_growE l G a (iI 1) arr0 vs.length (harr0) (hl)) (rest := []) 0 rfl rfl rfl q283 q285 (lw_g (lw_at lw_ms 2 rfl) rfl) q78 oJ2_grow_2 pJ2_grow_2 (by decide) (by decide) (Nat.le_of_ble_eq_true rfl) [0, 1, 1, 2, 3, 4, 5] [1] rfl ⟨⟨_, rfl, jpers_A⟩, trivial⟩ (Φr := [ia arr0 5 [], AL G b vs, oa t 5 (vs.map Value.ref), jEs "java/lang/Object" vs, im b 0 []]) rfl (by first | omega | exact Nat.zero_le _) dJ2_addAll_51 (fun v9 Ψ hq => ?_) (fun _ _ hq => hq.elim)
      obtain ⟨r, rfl, rfl⟩ := hq
      show jT mJ2_addAll l G _ _ _ X [ow a 0 [.int (iI 1), .ref r, .int (iI 0)], oa r 5 (List.replicate (max 10 vs.length) Value.null), ia arr0 5 [], AL G b vs, oa t 5 (vs.map Value.ref), jEs "java/lang/Object" vs, im b 0 []] 54 [(5, .int (iI 0)), (4, .ref arr0), (3, .int (iI (vs.length : Int))), (2, .ref t), (0, .ref a), (1, .ref b)] [.ref r] _
      refine jlv_astore (lv' := [(4, .ref r), (5, .int (iI 0)), (3, .int (iI (vs.length : Int))), (2, .ref t), (0, .ref a), (1, .ref b)]) dJ2_addAll_54 (by decide) rfl ?_
      refine jlv_aload_n dJ2_addAll_56 rfl 3 rfl ?_
      refine jlv_iconst (v := iI 0) dJ2_addAll_57 rfl ?_
      refine jlv_aload dJ2_addAll_58 0 rfl ?_
      refine jlv_iload dJ2_addAll_60 1 rfl ?_
      refine jlv_iload_n dJ2_addAll_62 rfl 2 rfl ?_
      refine jr_copyq q692 q366 q365 q88 (by decide) 4 1 5 rfl rfl rfl (vs := (vs.map Value.ref)) (ws := (List.replicate (max 10 vs.length) Value.null)) (sp := 0) (dp := 0) (n := vs.length) (by decide) (by decide) (iI_eqn (by omega) (by omega)) (by first | omega | (simp only [List.length_append, List.length_map, List.length_replicate]; omega)) (by first | omega | (simp only [List.length_append, List.length_map, List.length_replicate]; omega)) (fun q hq => al_copy0 (by omega)) (Nat.le_of_ble_eq_true rfl) dJ2_addAll_63 (Φ' := [ow a 0 [.int (iI 1), .ref r, .int (iI 0)], oa r 5 (vs.map Value.ref ++ List.replicate (max 10 vs.length - vs.length) Value.null), ia arr0 5 [], AL G b vs, oa t 5 (vs.map Value.ref), jEs "java/lang/Object" vs, im b 0 []]) (by rw [jcpy_map (by omega)]; rfl) ?_
      refine jlv_aload_n dJ2_addAll_66 rfl 4 rfl ?_
      refine jlv_iload dJ2_addAll_67 1 rfl ?_
      refine jlv_iload_n dJ2_addAll_69 rfl 2 rfl ?_
      refine ji_iadd (vs.length : Int) (by omega) dJ2_addAll_70 ?_
      refine jr_put 0 rfl rfl 2 q182 (Or.inl rfl) rfl rfl rfl rfl rfl dJ2_addAll_71 (Φ' := [ow a 0 [.int (iI 1), .ref r, .int (iI (vs.length : Int))], oa r 5 (vs.map Value.ref ++ List.replicate (max 10 vs.length - vs.length) Value.null), ia arr0 5 [], AL G b vs, oa t 5 (vs.map Value.ref), jEs "java/lang/Object" vs, im b 0 []]) rfl ?_
      refine jlv_iconst (v := iI 1) dJ2_addAll_74 rfl ?_
      refine jt_pickP [0, 1, 5, 2, 3, 4, 6] [] rfl trivial (Φ' := [ow a 0 [.int (iI 1), .ref r, .int (iI (vs.length : Int))], oa r 5 (vs.map Value.ref ++ List.replicate (max 10 vs.length - vs.length) Value.null), jEs "java/lang/Object" vs, ia arr0 5 [], AL G b vs, oa t 5 (vs.map Value.ref), im b 0 []]) rfl ?_
      refine jt_fold (A := [ow a 0 [.int (iI 1), .ref r, .int (iI (vs.length : Int))], oa r 5 (vs.map Value.ref ++ List.replicate (max 10 vs.length - vs.length) Value.null), jEs "java/lang/Object" vs]) (P := AL G a vs) (AL_fold (mc := iI 1) (junk := List.replicate (max 10 vs.length - vs.length) Value.null) (by rw [List.length_replicate]; omega) (fun q => by cases q) (fun _ => by omega) rfl rfl) ?_
      show jT mJ2_addAll l G _ _ _ X [AL G a vs, ia arr0 5 [], AL G b vs, oa t 5 (vs.map Value.ref), im b 0 []] 75 [(4, .ref r), (5, .int (iI 0)), (3, .int (iI (vs.length : Int))), (2, .ref t), (0, .ref a), (1, .ref b)] [.int (iI 1)] _
      exact jr_zret dJ2_addAll_75 rfl rfl (Ψ := [AL G a vs, AL G b vs]) ⟨(by congr 2; exact jB_t (decide_eq_true (by omega))), rfl⟩ (js_pickP [0, 2] [] rfl trivial rfl)
  · skip
    have hvs : vs = [] := List.length_eq_zero_iff.mp (by omega)
    refine jlv_iconst (v := iI 0) dJ2_addAll_24 rfl ?_
    refine jt_pickP [0, 1, 4, 2, 3, 5] [] rfl trivial (Φ' := [ow a 0 [.int (iI 1), .ref arr0, .int (iI 0)], ia arr0 5 [], jEs "java/lang/Object" vs, AL G b vs, oa t 5 (vs.map Value.ref), im b 0 []]) rfl ?_
    refine jt_fold (A := [ow a 0 [.int (iI 1), .ref arr0, .int (iI 0)], ia arr0 5 [], jEs "java/lang/Object" vs]) (P := AL G a []) (by rw [hvs]; exact AL_fold (mc := iI 1) (junk := []) (by decide) (fun _ => ⟨rfl, harr0⟩) (fun q => by cases q) rfl rfl) ?_
    show jT mJ2_addAll l G _ _ _ X [AL G a [], AL G b vs, oa t 5 (vs.map Value.ref), im b 0 []] 25 [(3, .int (iI (vs.length : Int))), (2, .ref t), (0, .ref a), (1, .ref b)] [.int (iI 0)] _
    refine jt_same 0 (P := AL G a []) (P' := AL G a vs) rfl (by rw [hvs]) (Φ' := [AL G a vs, AL G b vs, oa t 5 (vs.map Value.ref), im b 0 []]) rfl ?_
    exact jr_zret dJ2_addAll_25 rfl rfl (Ψ := [AL G a vs, AL G b vs]) ⟨(by congr 2; exact jB_f (decide_eq_false (by omega))), rfl⟩ (js_pickP [0, 1] [] rfl trivial rfl)

