set_option maxRecDepth 100000
theorem lfa_set {L : List Nat} {i v : Nat} (hv : L[i]? = some v) : ((L.take i).map Value.ref ++ List.replicate (L.length - i) Value.null).set i (.ref v) = (L.take (i + 1)).map Value.ref ++ List.replicate (L.length - (i + 1)) Value.null := by
  have hi := jlt hv
  have e : L.length - i = (L.length - (i + 1)) + 1 := by omega
  rw [e, List.replicate_succ, List.set_append_right _ _ (by rw [List.length_map, List.length_take]; omega), List.length_map, List.length_take, Nat.min_eq_left (by omega), Nat.sub_self, List.set_cons_zero, List.take_succ, hv]
  simp
abbrev mJ20_listFromArray : jM := (cJ20_listFromArray, RJ20, 3, (Option.some (FieldType.object "java/util/List")), "listFromArray", none)
theorem oJ20_listFromArray : jcode yJ20_listFromArray mJ20_listFromArray := q1845
theorem pJ20_listFromArray : jpar yJ20_listFromArray 1 := ⟨by decide +kernel, by decide +kernel, by decide +kernel⟩
theorem sp_listFromArray (l : Launch) (G : jG) (arr : Nat) (L : List Nat) (h1 : 3 ≤ L.length) (h2 : L.length ≤ 1000) : jS l G yJ20_listFromArray mJ20_listFromArray 5 [.ref arr] [oa arr 5 (L.map Value.ref), jEs "java/lang/Object" L] ((L.length + 7) / 4 + 1) (jret (fun v9 Ψ => ∃ r : Nat, v9 = some (.ref r) ∧ Ψ = [ILN r L])) := by
  refine jS_of (plainFor_of_name (by decide)) rfl rfl rfl (Nat.le_of_ble_eq_true rfl) (fun X => ?_)
  show jT mJ20_listFromArray l G _ _ _ X [oa arr 5 (L.map Value.ref), jEs "java/lang/Object" L] 0 [(0, .ref arr)] [] _
  refine jlv_aload_n dJ20_listFromArray_0 rfl 0 rfl ?_
  refine jr_alen 0 rfl (ty := .object "java/lang/Object") rfl dJ20_listFromArray_1 (n := iI (L.length : Int)) (by first | rfl | (rw [show _ = _ from List.length_map _]; rfl)) ?_
  refine jr_anew 5 rfl (E := "java/lang/Object") (List.mem_of_getElem? (i := 0) rfl) q1846 (N := L.length) (iI_eqn (by omega) (by omega)) (by omega) (u := (L.length + 7) / 4) (by omega) (by omega) (by omega) dJ20_listFromArray_2 (fun tmp => ?_)
  refine jlv_astore_n (lv' := [(1, .ref tmp), (0, .ref arr)]) dJ20_listFromArray_5 rfl (by decide) rfl ?_
  refine jlv_iconst (v := iI 0) dJ20_listFromArray_6 rfl ?_
  refine jlv_istore_n (lv' := [(2, .int (iI 0)), (1, .ref tmp), (0, .ref arr)]) dJ20_listFromArray_7 rfl (by decide) rfl ?_
  refine jt_same 0 (P := oa tmp 5 (List.replicate L.length Value.null)) (P' := oa tmp 5 ((L.take 0).map Value.ref ++ List.replicate (L.length - 0) Value.null)) rfl (by simp) (Φ' := [oa tmp 5 ((L.take 0).map Value.ref ++ List.replicate (L.length - 0) Value.null), oa arr 5 (L.map Value.ref), jEs "java/lang/Object" L]) rfl ?_
  have loop_214 : ∀ (k_216 : Nat) (i : Nat) (bb : Nat), L.length - i < k_216 → (i ≤ L.length) → 1 ≤ bb → jT mJ20_listFromArray l G 5 ((L.length + 7) / 4 + 1) (jret (fun v9 Ψ => ∃ r : Nat, v9 = some (.ref r) ∧ Ψ = [ILN r L])) X [oa tmp 5 ((L.take i).map Value.ref ++ List.replicate (L.length - i) Value.null), oa arr 5 (L.map Value.ref), jEs "java/lang/Object" L] 8 [(2, .int (iI (i : Int))), (1, .ref tmp), (0, .ref arr)] [] bb := by
    intro k_216
    induction k_216 with
    | zero =>
      intro i bb hm
      exact absurd hm (Nat.not_lt_zero _)
    | succ k_216 ih_215 =>
      intro i bb hm hi hbb
      refine jlv_iload_n dJ20_listFromArray_8 rfl 0 rfl ?_
      refine jlv_aload_n dJ20_listFromArray_9 rfl 2 rfl ?_
      refine jr_alen 1 rfl (ty := .object "java/lang/Object") rfl dJ20_listFromArray_10 (n := iI (L.length : Int)) (by first | rfl | (rw [show _ = _ from List.length_map _]; rfl)) ?_
      refine ji_icmp_ge 29 (by omega) (by omega) dJ20_listFromArray_11 (by decide) (fun h_217 => ?_) (fun h_217 => ?_)
      · skip
        refine jr_new (k0 := 23) rfl q1169 q1848 q131 (fs := [.null, .int (iI 0)]) rfl (u := 1) (by decide) (by decide) (by omega) dJ20_listFromArray_29 (fun a_218 => ?_)
        refine jlv_dup dJ20_listFromArray_32 rfl ?_
        refine jlv_aload_n dJ20_listFromArray_33 rfl 1 rfl ?_
        refine jlv_iconst (v := iI 0) dJ20_listFromArray_34 rfl ?_
        have hil : i = L.length := by omega
        subst hil
        refine jr_callIN [.ref tmp, .int (iI 0)] (sp_LN_init l G a_218 tmp) (rest := [.ref a_218]) rfl rfl rfl (List.mem_of_getElem? (i := 0) rfl) q1850 q131 oJ47_init pJ47_init (by decide) (by decide) (Nat.le_of_ble_eq_true rfl) [0, 1, 2, 3] [] rfl trivial (Φr := [oa tmp 5 ((L.take L.length).map Value.ref ++ List.replicate (L.length - L.length) Value.null), oa arr 5 (L.map Value.ref), jEs "java/lang/Object" L]) rfl (by first | omega | exact Nat.zero_le _ | (simp only [List.length_map, List.length_append, List.length_cons, List.length_nil, List.length_take, List.length_drop] at *; omega)) dJ20_listFromArray_35 (fun v9 Ψ hq => ?_) (fun _ _ hq => hq.elim)
        obtain ⟨rfl, rfl⟩ := hq
        show jT mJ20_listFromArray l G _ _ _ X [ow a_218 23 [.ref tmp, .int (iI 0)], oa tmp 5 ((L.take L.length).map Value.ref ++ List.replicate (L.length - L.length) Value.null), oa arr 5 (L.map Value.ref), jEs "java/lang/Object" L] 38 [(2, .int (iI (L.length : Int))), (1, .ref tmp), (0, .ref arr)] [.ref a_218] _
        refine jt_same 1 (P := oa tmp 5 ((L.take L.length).map Value.ref ++ List.replicate (L.length - L.length) Value.null)) (P' := oa tmp 5 (L.map Value.ref)) rfl (by rw [List.take_length, Nat.sub_self, List.replicate_zero, List.append_nil]) (Φ' := [ow a_218 23 [.ref tmp, .int (iI 0)], oa tmp 5 (L.map Value.ref), oa arr 5 (L.map Value.ref), jEs "java/lang/Object" L]) rfl ?_
        refine jt_freeze 1 rfl (Φ' := [ow a_218 23 [.ref tmp, .int (iI 0)], ia tmp 5 (L.map Value.ref), oa arr 5 (L.map Value.ref), jEs "java/lang/Object" L]) rfl ?_
        refine jt_freeze 0 rfl (Φ' := [im a_218 23 [.ref tmp, .int (iI 0)], ia tmp 5 (L.map Value.ref), oa arr 5 (L.map Value.ref), jEs "java/lang/Object" L]) rfl ?_
        refine jt_pickP [0, 1, 2, 3] [] rfl trivial (Φ' := [im a_218 23 [.ref tmp, .int (iI 0)], ia tmp 5 (L.map Value.ref), oa arr 5 (L.map Value.ref), jEs "java/lang/Object" L]) rfl ?_
        refine jt_fold (A := [im a_218 23 [.ref tmp, .int (iI 0)], ia tmp 5 (L.map Value.ref)]) (P := ILN a_218 L) (fun h hh => ⟨tmp, ⟨h1, h2⟩, hh⟩) ?_
        show jT mJ20_listFromArray l G _ _ _ X [ILN a_218 L, oa arr 5 (L.map Value.ref), jEs "java/lang/Object" L] 38 [(2, .int (iI (L.length : Int))), (1, .ref tmp), (0, .ref arr)] [.ref a_218] _
        exact jr_aret dJ20_listFromArray_38 rfl (Or.inl ⟨_, rfl⟩) (Or.inr ⟨_, rfl⟩) (Ψ := [ILN a_218 L]) ⟨a_218, rfl, rfl⟩ (js_pickP [0] [] rfl trivial rfl)
      · skip
        have hil : i < L.length := by omega
        obtain ⟨v, hv⟩ := l_get hil
        refine jlv_aload_n dJ20_listFromArray_14 rfl 1 rfl ?_
        refine jlv_iload_n dJ20_listFromArray_15 rfl 0 rfl ?_
        refine jlv_aload_n dJ20_listFromArray_16 rfl 2 rfl ?_
        refine jlv_iload_n dJ20_listFromArray_17 rfl 0 rfl ?_
        refine jr_aald 1 rfl (E := "java/lang/Object") rfl (n := i) (iI_eqn (by omega) (by omega)) (v := .ref v) (by rw [List.getElem?_map, hv]; rfl) dJ20_listFromArray_18 ?_
        refine jr_callS [.ref v] (sp_requireNonNull l G v) (rest := [.int (iI (i : Int)), .ref tmp]) q1847 q1831 q116 oJ34_requireNonNull pJ34_requireNonNull (by decide) (by decide) (Nat.le_of_ble_eq_true rfl) [0, 1, 2] [] rfl trivial (Φr := [oa tmp 5 ((L.take i).map Value.ref ++ List.replicate (L.length - i) Value.null), oa arr 5 (L.map Value.ref), jEs "java/lang/Object" L]) rfl (by first | omega | exact Nat.zero_le _ | (simp only [List.length_map, List.length_append, List.length_cons, List.length_nil, List.length_take, List.length_drop] at *; omega)) dJ20_listFromArray_19 (fun v9 Ψ hq => ?_) (fun _ _ hq => hq.elim)
        obtain ⟨rfl, rfl⟩ := hq
        show jT mJ20_listFromArray l G _ _ _ X [oa tmp 5 ((L.take i).map Value.ref ++ List.replicate (L.length - i) Value.null), oa arr 5 (L.map Value.ref), jEs "java/lang/Object" L] 22 [(2, .int (iI (i : Int))), (1, .ref tmp), (0, .ref arr)] [.ref v, .int (iI (i : Int)), .ref tmp] _
        refine jt_Es 2 i rfl hv ?_
        show jT mJ20_listFromArray l G _ _ _ X [jE "java/lang/Object" v, oa tmp 5 ((L.take i).map Value.ref ++ List.replicate (L.length - i) Value.null), oa arr 5 (L.map Value.ref), jEs "java/lang/Object" L] 22 [(2, .int (iI (i : Int))), (1, .ref tmp), (0, .ref arr)] [.ref v, .int (iI (i : Int)), .ref tmp] _
        refine jr_aast 1 0 rfl (E := "java/lang/Object") rfl rfl rfl (n := i) (iI_nat (by omega)) (by simp; omega) dJ20_listFromArray_22 (Φ' := [jE "java/lang/Object" v, oa tmp 5 ((L.take (i + 1)).map Value.ref ++ List.replicate (L.length - (i + 1)) Value.null), oa arr 5 (L.map Value.ref), jEs "java/lang/Object" L]) (by rw [lfa_set hv]; rfl) ?_
        refine ji_iinc (lv' := [(2, .int (iI ((i : Int) + 1))), (1, .ref tmp), (0, .ref arr)]) ((i : Int) + 1) (by omega) dJ20_listFromArray_23 0 rfl (by decide) rfl ?_
        refine jlv_goto (tgt := 8) dJ20_listFromArray_26 (by decide) ?_
        refine jt_pickP [1, 2, 3] [] rfl trivial (Φ' := [oa tmp 5 ((L.take (i + 1)).map Value.ref ++ List.replicate (L.length - (i + 1)) Value.null), oa arr 5 (L.map Value.ref), jEs "java/lang/Object" L]) rfl ?_
        refine jt_lv [0, 1, 2] (lv' := [(2, .int (iI ((i : Int) + 1))), (1, .ref tmp), (0, .ref arr)]) rfl ?_
        exact ih_215 (i + 1) _ (by omega) (by omega) hbb
  refine jt_pickP [0, 1, 2] [] rfl trivial (Φ' := [oa tmp 5 ((L.take 0).map Value.ref ++ List.replicate (L.length - 0) Value.null), oa arr 5 (L.map Value.ref), jEs "java/lang/Object" L]) rfl ?_
  refine jt_lv [0, 1, 2] (lv' := [(2, .int (iI 0)), (1, .ref tmp), (0, .ref arr)]) rfl ?_
  exact loop_214 _ 0 _ (Nat.lt_succ_self _) (Nat.zero_le _) (by omega)

abbrev mJ32_of_2 : jM := (cJ32_of_2, RJ32, 2, (Option.some (FieldType.object "java/util/List")), "of", none)
theorem oJ32_of_2 : jcode yJ32_of_2 mJ32_of_2 := q1823
theorem pJ32_of_2 : jpar yJ32_of_2 1 := ⟨by decide +kernel, by decide +kernel, by decide +kernel⟩
theorem sp_List_of_jStroke (l : Launch) (G : jG) (arr : Nat) (ps : List (Nat × Nat × Nat)) (h1 : 1 ≤ ps.length) (h2 : ps.length ≤ 1000) : jS l G yJ32_of_2 mJ32_of_2 6 [.ref arr] [oa arr 5 ((ps.map Prod.fst).map Value.ref), jEs "java/lang/Object" (ps.map Prod.fst), jPs jStroke ps] ((ps.length + 7) / 4 + 2) (jret (fun v9 Ψ => ∃ r : Nat, v9 = some (.ref r) ∧ Ψ = [IL G r (ps.map Prod.fst)])) := by
  refine jS_of (plainFor_of_name (by decide)) rfl rfl rfl (Nat.le_of_ble_eq_true rfl) (fun X => ?_)
  show jT mJ32_of_2 l G _ _ _ X [oa arr 5 ((ps.map Prod.fst).map Value.ref), jEs "java/lang/Object" (ps.map Prod.fst), jPs jStroke ps] 0 [(0, .ref arr)] [] _
  refine jr_g0 (fun hg0 => ?_)
  obtain ⟨gi, ⟨gea, hgea, hgea2⟩, ⟨gem, hgem, hgem2⟩, ⟨gpr, hgpr, hgpr2⟩, ⟨gic, gicad, hgic, hgic2, hgic3⟩, ⟨gcc, gccad, hgcc, hgcc2, hgcc3⟩, grf, gks⟩ := hg0
  obtain _ | ⟨x, _ | ⟨y, _ | ⟨z, zs⟩⟩⟩ := ps
  · exact absurd h1 (by decide)
  · skip
    show jT mJ32_of_2 l G _ _ _ X [oa arr 5 [Value.ref x.1], jEs "java/lang/Object" ([x].map Prod.fst), jPs jStroke [x]] 0 [(0, .ref arr)] [] _
    refine jlv_aload_n dJ32_of_2_0 rfl 0 rfl ?_
    refine jr_alen 0 rfl (ty := .object "java/lang/Object") rfl dJ32_of_2_1 (n := iI 1) (by first | rfl | (rw [show _ = _ from rfl]; rfl)) ?_
    refine jt_eq (st' := [.int (iI 1)]) (lv' := [(0, .ref arr)]) (by rfl) rfl ?_
    refine jlv_tableIn (tgt := 34) dJ32_of_2_2 (by decide) (by decide) rfl (by decide) ?_
    refine jr_new (k0 := 22) rfl q1824 q1825 q130 (fs := [.null, .null]) rfl (u := 1) (by decide) (by decide) (by omega) dJ32_of_2_34 (fun a_219 => ?_)
    refine jlv_dup dJ32_of_2_37 rfl ?_
    refine jlv_aload_n dJ32_of_2_38 rfl 0 rfl ?_
    refine jlv_iconst (v := iI 0) dJ32_of_2_39 rfl ?_
    refine jr_aald 1 rfl (E := "java/lang/Object") rfl (n := 0) (by decide) (v := .ref x.1) rfl dJ32_of_2_40 ?_
    refine jr_callI [.ref x.1] (sp_L12_init1 l G a_219 x.1) (rest := [.ref a_219]) rfl rfl rfl q1826 q1827 q130 oJ46_init pJ46_init (by decide) (by decide) (Nat.le_of_ble_eq_true rfl) [0, 1, 2, 3] [] rfl trivial (Φr := [oa arr 5 [Value.ref x.1], jEs "java/lang/Object" ([x].map Prod.fst), jPs jStroke [x]]) rfl (by first | omega | exact Nat.zero_le _ | (simp only [List.length_map, List.length_append, List.length_cons, List.length_nil, List.length_take, List.length_drop] at *; omega)) dJ32_of_2_41 (fun v9 Ψ hq => ?_) (fun _ _ hq => hq.elim)
    obtain ⟨rfl, rfl⟩ := hq
    show jT mJ32_of_2 l G _ _ _ X [ow a_219 22 [.ref x.1, jSV G 8], oa arr 5 [Value.ref x.1], jEs "java/lang/Object" ([x].map Prod.fst), jPs jStroke [x]] 44 [(0, .ref arr)] [.ref a_219] _
    have hge : jSV G 8 = .ref gem := hgem
    refine jt_same 0 (P := ow a_219 22 [.ref x.1, jSV G 8]) (P' := ow a_219 22 [.ref x.1, .ref gem]) rfl (by rw [hge]) (Φ' := [ow a_219 22 [.ref x.1, .ref gem], oa arr 5 [Value.ref x.1], jEs "java/lang/Object" ([x].map Prod.fst), jPs jStroke [x]]) rfl ?_
    refine jt_freeze 0 rfl (Φ' := [im a_219 22 [.ref x.1, .ref gem], oa arr 5 [Value.ref x.1], jEs "java/lang/Object" ([x].map Prod.fst), jPs jStroke [x]]) rfl ?_
    refine jt_pickP [0, 1, 2, 3] [] rfl trivial (Φ' := [im a_219 22 [.ref x.1, .ref gem], oa arr 5 [Value.ref x.1], jEs "java/lang/Object" ([x].map Prod.fst), jPs jStroke [x]]) rfl ?_
    refine jt_fold (A := [im a_219 22 [.ref x.1, .ref gem]]) (P := IL G a_219 ([x].map Prod.fst)) (fun h hh => Or.inl ⟨x.1, rfl, gem, hgem, hh⟩) ?_
    show jT mJ32_of_2 l G _ _ _ X [IL G a_219 ([x].map Prod.fst), oa arr 5 [Value.ref x.1], jEs "java/lang/Object" ([x].map Prod.fst), jPs jStroke [x]] 44 [(0, .ref arr)] [.ref a_219] _
    exact jr_aret dJ32_of_2_44 rfl (Or.inl ⟨_, rfl⟩) (Or.inr ⟨_, rfl⟩) (Ψ := [IL G a_219 ([x].map Prod.fst)]) ⟨a_219, rfl, rfl⟩ (js_pickP [0] [] rfl trivial rfl)
  · skip
    show jT mJ32_of_2 l G _ _ _ X [oa arr 5 [Value.ref x.1, Value.ref y.1], jEs "java/lang/Object" ([x, y].map Prod.fst), jPs jStroke [x, y]] 0 [(0, .ref arr)] [] _
    refine jlv_aload_n dJ32_of_2_0 rfl 0 rfl ?_
    refine jr_alen 0 rfl (ty := .object "java/lang/Object") rfl dJ32_of_2_1 (n := iI 2) (by first | rfl | (rw [show _ = _ from rfl]; rfl)) ?_
    refine jt_eq (st' := [.int (iI 2)]) (lv' := [(0, .ref arr)]) (by rfl) rfl ?_
    refine jlv_tableIn (tgt := 45) dJ32_of_2_2 (by decide) (by decide) rfl (by decide) ?_
    refine jr_new (k0 := 22) rfl q1824 q1825 q130 (fs := [.null, .null]) rfl (u := 1) (by decide) (by decide) (by omega) dJ32_of_2_45 (fun a_220 => ?_)
    refine jlv_dup dJ32_of_2_48 rfl ?_
    refine jlv_aload_n dJ32_of_2_49 rfl 0 rfl ?_
    refine jlv_iconst (v := iI 0) dJ32_of_2_50 rfl ?_
    refine jr_aald 1 rfl (E := "java/lang/Object") rfl (n := 0) (by decide) (v := .ref x.1) rfl dJ32_of_2_51 ?_
    refine jlv_aload_n dJ32_of_2_52 rfl 0 rfl ?_
    refine jlv_iconst (v := iI 1) dJ32_of_2_53 rfl ?_
    refine jr_aald 1 rfl (E := "java/lang/Object") rfl (n := 1) (by decide) (v := .ref y.1) rfl dJ32_of_2_54 ?_
    refine jr_callI [.ref x.1, .ref y.1] (sp_L12_init2 l G a_220 x.1 y.1) (rest := [.ref a_220]) rfl rfl rfl q1840 q1841 q130 oJ46_init_2 pJ46_init_2 (by decide) (by decide) (Nat.le_of_ble_eq_true rfl) [0, 1, 2, 3] [] rfl trivial (Φr := [oa arr 5 [Value.ref x.1, Value.ref y.1], jEs "java/lang/Object" ([x, y].map Prod.fst), jPs jStroke [x, y]]) rfl (by first | omega | exact Nat.zero_le _ | (simp only [List.length_map, List.length_append, List.length_cons, List.length_nil, List.length_take, List.length_drop] at *; omega)) dJ32_of_2_55 (fun v9 Ψ hq => ?_) (fun _ _ hq => hq.elim)
    obtain ⟨rfl, rfl⟩ := hq
    show jT mJ32_of_2 l G _ _ _ X [ow a_220 22 [.ref x.1, .ref y.1], oa arr 5 [Value.ref x.1, Value.ref y.1], jEs "java/lang/Object" ([x, y].map Prod.fst), jPs jStroke [x, y]] 58 [(0, .ref arr)] [.ref a_220] _
    refine jt_P 3 y (fun x => jpers_jStroke) rfl (by simp) ?_
    refine jt_dup 0 rfl jpers_jStroke ?_
    refine jt_open ?_
    rintro ⟨⟩ ⟨hb_221, hb_2212⟩
    try dsimp only at hb_221 hb_2212
    show jT mJ32_of_2 l G _ _ _ X [im y.1 32 [.int (iI (y.2.1 : Int)), .int (iI (y.2.2 : Int))], jStroke y, ow a_220 22 [.ref x.1, .ref y.1], oa arr 5 [Value.ref x.1, Value.ref y.1], jEs "java/lang/Object" ([x, y].map Prod.fst), jPs jStroke [x, y]] 58 [(0, .ref arr)] [.ref a_220] _
    refine jt_old hgem2 ?_
    show jT mJ32_of_2 l G _ _ _ X [im gem 48 [], im y.1 32 [.int (iI (y.2.1 : Int)), .int (iI (y.2.2 : Int))], jStroke y, ow a_220 22 [.ref x.1, .ref y.1], oa arr 5 [Value.ref x.1, Value.ref y.1], jEs "java/lang/Object" ([x, y].map Prod.fst), jPs jStroke [x, y]] 58 [(0, .ref arr)] [.ref a_220] _
    refine jt_cne 1 0 rfl rfl rfl rfl (by decide) (fun hne => ?_)
    refine jt_freeze 3 rfl (Φ' := [im gem 48 [], im y.1 32 [.int (iI (y.2.1 : Int)), .int (iI (y.2.2 : Int))], jStroke y, im a_220 22 [.ref x.1, .ref y.1], oa arr 5 [Value.ref x.1, Value.ref y.1], jEs "java/lang/Object" ([x, y].map Prod.fst), jPs jStroke [x, y]]) rfl ?_
    refine jt_pickP [3, 0, 1, 2, 4, 5, 6] [] rfl trivial (Φ' := [im a_220 22 [.ref x.1, .ref y.1], im gem 48 [], im y.1 32 [.int (iI (y.2.1 : Int)), .int (iI (y.2.2 : Int))], jStroke y, oa arr 5 [Value.ref x.1, Value.ref y.1], jEs "java/lang/Object" ([x, y].map Prod.fst), jPs jStroke [x, y]]) rfl ?_
    refine jt_fold (A := [im a_220 22 [.ref x.1, .ref y.1]]) (P := IL G a_220 ([x, y].map Prod.fst)) (fun h hh => Or.inr (Or.inl ⟨x.1, y.1, rfl, gem, ⟨hgem, hne⟩, hh⟩)) ?_
    show jT mJ32_of_2 l G _ _ _ X [IL G a_220 ([x, y].map Prod.fst), im gem 48 [], im y.1 32 [.int (iI (y.2.1 : Int)), .int (iI (y.2.2 : Int))], jStroke y, oa arr 5 [Value.ref x.1, Value.ref y.1], jEs "java/lang/Object" ([x, y].map Prod.fst), jPs jStroke [x, y]] 58 [(0, .ref arr)] [.ref a_220] _
    exact jr_aret dJ32_of_2_58 rfl (Or.inl ⟨_, rfl⟩) (Or.inr ⟨_, rfl⟩) (Ψ := [IL G a_220 ([x, y].map Prod.fst)]) ⟨a_220, rfl, rfl⟩ (js_pickP [0] [] rfl trivial rfl)
  · skip
    show jT mJ32_of_2 l G _ _ _ X [oa arr 5 (((x :: y :: z :: zs).map Prod.fst).map Value.ref), jEs "java/lang/Object" ((x :: y :: z :: zs).map Prod.fst), jPs jStroke (x :: y :: z :: zs)] 0 [(0, .ref arr)] [] _
    refine jlv_aload_n dJ32_of_2_0 rfl 0 rfl ?_
    have hz : (x :: y :: z :: zs).length = zs.length + 3 := rfl
    refine jr_alen 0 rfl (ty := .object "java/lang/Object") rfl dJ32_of_2_1 (n := iI (((x :: y :: z :: zs).length : Nat) : Int)) (by first | rfl | (rw [show _ = _ from (by simp : (((x :: y :: z :: zs).map Prod.fst).map Value.ref).length = (x :: y :: z :: zs).length)]; rfl)) ?_
    refine jlv_tableOut (tgt := 59) dJ32_of_2_2 (Or.inr (by rw [iI_toInt (by omega)]; omega)) (by decide) ?_
    refine jlv_aload_n dJ32_of_2_59 rfl 0 rfl ?_
    refine jr_callS [.ref arr] (sp_listFromArray l G arr ((x :: y :: z :: zs).map Prod.fst) (by rw [List.length_map]; omega) (by rw [List.length_map]; omega)) (rest := []) q1843 q1844 q99 oJ20_listFromArray pJ20_listFromArray (by decide) (by decide) (Nat.le_of_ble_eq_true rfl) [0, 1, 1, 2] [1] rfl ⟨⟨_, rfl, jpers_Es⟩, trivial⟩ (Φr := [jEs "java/lang/Object" ((x :: y :: z :: zs).map Prod.fst), jPs jStroke (x :: y :: z :: zs)]) rfl (by first | omega | exact Nat.zero_le _ | (simp only [List.length_map, List.length_append, List.length_cons, List.length_nil, List.length_take, List.length_drop] at *; omega)) dJ32_of_2_60 (fun v9 Ψ hq => ?_) (fun _ _ hq => hq.elim)
    obtain ⟨r_223, rfl, rfl⟩ := hq
    show jT mJ32_of_2 l G _ _ _ X [ILN r_223 ((x :: y :: z :: zs).map Prod.fst), jEs "java/lang/Object" ((x :: y :: z :: zs).map Prod.fst), jPs jStroke (x :: y :: z :: zs)] 63 [(0, .ref arr)] [.ref r_223] _
    refine jt_conv (A := [ILN r_223 ((x :: y :: z :: zs).map Prod.fst)]) (P := IL G r_223 ((x :: y :: z :: zs).map Prod.fst)) (fun h hh => ⟨h, fun _ _ q => q, Or.inr (Or.inr (jsl_one.mp hh))⟩) ?_
    show jT mJ32_of_2 l G _ _ _ X [IL G r_223 ((x :: y :: z :: zs).map Prod.fst), jEs "java/lang/Object" ((x :: y :: z :: zs).map Prod.fst), jPs jStroke (x :: y :: z :: zs)] 63 [(0, .ref arr)] [.ref r_223] _
    exact jr_aret dJ32_of_2_63 rfl (Or.inl ⟨_, rfl⟩) (Or.inr ⟨_, rfl⟩) (Ψ := [IL G r_223 ((x :: y :: z :: zs).map Prod.fst)]) ⟨r_223, rfl, rfl⟩ (js_pickP [0] [] rfl trivial rfl)

theorem sp_List_of_jInt (l : Launch) (G : jG) (arr : Nat) (ps : List (Nat × Int)) (h1 : 1 ≤ ps.length) (h2 : ps.length ≤ 1000) : jS l G yJ32_of_2 mJ32_of_2 6 [.ref arr] [oa arr 5 ((ps.map Prod.fst).map Value.ref), jEs "java/lang/Object" (ps.map Prod.fst), jPs jInt ps] ((ps.length + 7) / 4 + 2) (jret (fun v9 Ψ => ∃ r : Nat, v9 = some (.ref r) ∧ Ψ = [IL G r (ps.map Prod.fst)])) := by
  refine jS_of (plainFor_of_name (by decide)) rfl rfl rfl (Nat.le_of_ble_eq_true rfl) (fun X => ?_)
  show jT mJ32_of_2 l G _ _ _ X [oa arr 5 ((ps.map Prod.fst).map Value.ref), jEs "java/lang/Object" (ps.map Prod.fst), jPs jInt ps] 0 [(0, .ref arr)] [] _
  refine jr_g0 (fun hg0 => ?_)
  obtain ⟨gi, ⟨gea, hgea, hgea2⟩, ⟨gem, hgem, hgem2⟩, ⟨gpr, hgpr, hgpr2⟩, ⟨gic, gicad, hgic, hgic2, hgic3⟩, ⟨gcc, gccad, hgcc, hgcc2, hgcc3⟩, grf, gks⟩ := hg0
  obtain _ | ⟨x, _ | ⟨y, _ | ⟨z, zs⟩⟩⟩ := ps
  · exact absurd h1 (by decide)
  · skip
    show jT mJ32_of_2 l G _ _ _ X [oa arr 5 [Value.ref x.1], jEs "java/lang/Object" ([x].map Prod.fst), jPs jInt [x]] 0 [(0, .ref arr)] [] _
    refine jlv_aload_n dJ32_of_2_0 rfl 0 rfl ?_
    refine jr_alen 0 rfl (ty := .object "java/lang/Object") rfl dJ32_of_2_1 (n := iI 1) (by first | rfl | (rw [show _ = _ from rfl]; rfl)) ?_
    refine jt_eq (st' := [.int (iI 1)]) (lv' := [(0, .ref arr)]) (by rfl) rfl ?_
    refine jlv_tableIn (tgt := 34) dJ32_of_2_2 (by decide) (by decide) rfl (by decide) ?_
    refine jr_new (k0 := 22) rfl q1824 q1825 q130 (fs := [.null, .null]) rfl (u := 1) (by decide) (by decide) (by omega) dJ32_of_2_34 (fun a_224 => ?_)
    refine jlv_dup dJ32_of_2_37 rfl ?_
    refine jlv_aload_n dJ32_of_2_38 rfl 0 rfl ?_
    refine jlv_iconst (v := iI 0) dJ32_of_2_39 rfl ?_
    refine jr_aald 1 rfl (E := "java/lang/Object") rfl (n := 0) (by decide) (v := .ref x.1) rfl dJ32_of_2_40 ?_
    refine jr_callI [.ref x.1] (sp_L12_init1 l G a_224 x.1) (rest := [.ref a_224]) rfl rfl rfl q1826 q1827 q130 oJ46_init pJ46_init (by decide) (by decide) (Nat.le_of_ble_eq_true rfl) [0, 1, 2, 3] [] rfl trivial (Φr := [oa arr 5 [Value.ref x.1], jEs "java/lang/Object" ([x].map Prod.fst), jPs jInt [x]]) rfl (by first | omega | exact Nat.zero_le _ | (simp only [List.length_map, List.length_append, List.length_cons, List.length_nil, List.length_take, List.length_drop] at *; omega)) dJ32_of_2_41 (fun v9 Ψ hq => ?_) (fun _ _ hq => hq.elim)
    obtain ⟨rfl, rfl⟩ := hq
    show jT mJ32_of_2 l G _ _ _ X [ow a_224 22 [.ref x.1, jSV G 8], oa arr 5 [Value.ref x.1], jEs "java/lang/Object" ([x].map Prod.fst), jPs jInt [x]] 44 [(0, .ref arr)] [.ref a_224] _
    have hge : jSV G 8 = .ref gem := hgem
    refine jt_same 0 (P := ow a_224 22 [.ref x.1, jSV G 8]) (P' := ow a_224 22 [.ref x.1, .ref gem]) rfl (by rw [hge]) (Φ' := [ow a_224 22 [.ref x.1, .ref gem], oa arr 5 [Value.ref x.1], jEs "java/lang/Object" ([x].map Prod.fst), jPs jInt [x]]) rfl ?_
    refine jt_freeze 0 rfl (Φ' := [im a_224 22 [.ref x.1, .ref gem], oa arr 5 [Value.ref x.1], jEs "java/lang/Object" ([x].map Prod.fst), jPs jInt [x]]) rfl ?_
    refine jt_pickP [0, 1, 2, 3] [] rfl trivial (Φ' := [im a_224 22 [.ref x.1, .ref gem], oa arr 5 [Value.ref x.1], jEs "java/lang/Object" ([x].map Prod.fst), jPs jInt [x]]) rfl ?_
    refine jt_fold (A := [im a_224 22 [.ref x.1, .ref gem]]) (P := IL G a_224 ([x].map Prod.fst)) (fun h hh => Or.inl ⟨x.1, rfl, gem, hgem, hh⟩) ?_
    show jT mJ32_of_2 l G _ _ _ X [IL G a_224 ([x].map Prod.fst), oa arr 5 [Value.ref x.1], jEs "java/lang/Object" ([x].map Prod.fst), jPs jInt [x]] 44 [(0, .ref arr)] [.ref a_224] _
    exact jr_aret dJ32_of_2_44 rfl (Or.inl ⟨_, rfl⟩) (Or.inr ⟨_, rfl⟩) (Ψ := [IL G a_224 ([x].map Prod.fst)]) ⟨a_224, rfl, rfl⟩ (js_pickP [0] [] rfl trivial rfl)
  · skip
    show jT mJ32_of_2 l G _ _ _ X [oa arr 5 [Value.ref x.1, Value.ref y.1], jEs "java/lang/Object" ([x, y].map Prod.fst), jPs jInt [x, y]] 0 [(0, .ref arr)] [] _
    refine jlv_aload_n dJ32_of_2_0 rfl 0 rfl ?_
    refine jr_alen 0 rfl (ty := .object "java/lang/Object") rfl dJ32_of_2_1 (n := iI 2) (by first | rfl | (rw [show _ = _ from rfl]; rfl)) ?_
    refine jt_eq (st' := [.int (iI 2)]) (lv' := [(0, .ref arr)]) (by rfl) rfl ?_
    refine jlv_tableIn (tgt := 45) dJ32_of_2_2 (by decide) (by decide) rfl (by decide) ?_
    refine jr_new (k0 := 22) rfl q1824 q1825 q130 (fs := [.null, .null]) rfl (u := 1) (by decide) (by decide) (by omega) dJ32_of_2_45 (fun a_225 => ?_)
    refine jlv_dup dJ32_of_2_48 rfl ?_
    refine jlv_aload_n dJ32_of_2_49 rfl 0 rfl ?_
    refine jlv_iconst (v := iI 0) dJ32_of_2_50 rfl ?_
    refine jr_aald 1 rfl (E := "java/lang/Object") rfl (n := 0) (by decide) (v := .ref x.1) rfl dJ32_of_2_51 ?_
    refine jlv_aload_n dJ32_of_2_52 rfl 0 rfl ?_
    refine jlv_iconst (v := iI 1) dJ32_of_2_53 rfl ?_
    refine jr_aald 1 rfl (E := "java/lang/Object") rfl (n := 1) (by decide) (v := .ref y.1) rfl dJ32_of_2_54 ?_
    refine jr_callI [.ref x.1, .ref y.1] (sp_L12_init2 l G a_225 x.1 y.1) (rest := [.ref a_225]) rfl rfl rfl q1840 q1841 q130 oJ46_init_2 pJ46_init_2 (by decide) (by decide) (Nat.le_of_ble_eq_true rfl) [0, 1, 2, 3] [] rfl trivial (Φr := [oa arr 5 [Value.ref x.1, Value.ref y.1], jEs "java/lang/Object" ([x, y].map Prod.fst), jPs jInt [x, y]]) rfl (by first | omega | exact Nat.zero_le _ | (simp only [List.length_map, List.length_append, List.length_cons, List.length_nil, List.length_take, List.length_drop] at *; omega)) dJ32_of_2_55 (fun v9 Ψ hq => ?_) (fun _ _ hq => hq.elim)
    obtain ⟨rfl, rfl⟩ := hq
    show jT mJ32_of_2 l G _ _ _ X [ow a_225 22 [.ref x.1, .ref y.1], oa arr 5 [Value.ref x.1, Value.ref y.1], jEs "java/lang/Object" ([x, y].map Prod.fst), jPs jInt [x, y]] 58 [(0, .ref arr)] [.ref a_225] _
    refine jt_P 3 y (fun x => jpers_Int x) rfl (by simp) ?_
    refine jt_dup 0 rfl (jpers_Int _) ?_
    refine jt_open ?_
    rintro ⟨⟩ ⟨hr1, hr2⟩
    try dsimp only at hr1 hr2
    show jT mJ32_of_2 l G _ _ _ X [im y.1 6 [.int (iI y.2)], jInt y, ow a_225 22 [.ref x.1, .ref y.1], oa arr 5 [Value.ref x.1, Value.ref y.1], jEs "java/lang/Object" ([x, y].map Prod.fst), jPs jInt [x, y]] 58 [(0, .ref arr)] [.ref a_225] _
    refine jt_old hgem2 ?_
    show jT mJ32_of_2 l G _ _ _ X [im gem 48 [], im y.1 6 [.int (iI y.2)], jInt y, ow a_225 22 [.ref x.1, .ref y.1], oa arr 5 [Value.ref x.1, Value.ref y.1], jEs "java/lang/Object" ([x, y].map Prod.fst), jPs jInt [x, y]] 58 [(0, .ref arr)] [.ref a_225] _
    refine jt_cne 1 0 rfl rfl rfl rfl (by decide) (fun hne => ?_)
    refine jt_freeze 3 rfl (Φ' := [im gem 48 [], im y.1 6 [.int (iI y.2)], jInt y, im a_225 22 [.ref x.1, .ref y.1], oa arr 5 [Value.ref x.1, Value.ref y.1], jEs "java/lang/Object" ([x, y].map Prod.fst), jPs jInt [x, y]]) rfl ?_
    refine jt_pickP [3, 0, 1, 2, 4, 5, 6] [] rfl trivial (Φ' := [im a_225 22 [.ref x.1, .ref y.1], im gem 48 [], im y.1 6 [.int (iI y.2)], jInt y, oa arr 5 [Value.ref x.1, Value.ref y.1], jEs "java/lang/Object" ([x, y].map Prod.fst), jPs jInt [x, y]]) rfl ?_
    refine jt_fold (A := [im a_225 22 [.ref x.1, .ref y.1]]) (P := IL G a_225 ([x, y].map Prod.fst)) (fun h hh => Or.inr (Or.inl ⟨x.1, y.1, rfl, gem, ⟨hgem, hne⟩, hh⟩)) ?_
    show jT mJ32_of_2 l G _ _ _ X [IL G a_225 ([x, y].map Prod.fst), im gem 48 [], im y.1 6 [.int (iI y.2)], jInt y, oa arr 5 [Value.ref x.1, Value.ref y.1], jEs "java/lang/Object" ([x, y].map Prod.fst), jPs jInt [x, y]] 58 [(0, .ref arr)] [.ref a_225] _
    exact jr_aret dJ32_of_2_58 rfl (Or.inl ⟨_, rfl⟩) (Or.inr ⟨_, rfl⟩) (Ψ := [IL G a_225 ([x, y].map Prod.fst)]) ⟨a_225, rfl, rfl⟩ (js_pickP [0] [] rfl trivial rfl)
  · skip
    show jT mJ32_of_2 l G _ _ _ X [oa arr 5 (((x :: y :: z :: zs).map Prod.fst).map Value.ref), jEs "java/lang/Object" ((x :: y :: z :: zs).map Prod.fst), jPs jInt (x :: y :: z :: zs)] 0 [(0, .ref arr)] [] _
    refine jlv_aload_n dJ32_of_2_0 rfl 0 rfl ?_
    have hz : (x :: y :: z :: zs).length = zs.length + 3 := rfl
    refine jr_alen 0 rfl (ty := .object "java/lang/Object") rfl dJ32_of_2_1 (n := iI (((x :: y :: z :: zs).length : Nat) : Int)) (by first | rfl | (rw [show _ = _ from (by simp : (((x :: y :: z :: zs).map Prod.fst).map Value.ref).length = (x :: y :: z :: zs).length)]; rfl)) ?_
    refine jlv_tableOut (tgt := 59) dJ32_of_2_2 (Or.inr (by rw [iI_toInt (by omega)]; omega)) (by decide) ?_
    refine jlv_aload_n dJ32_of_2_59 rfl 0 rfl ?_
    refine jr_callS [.ref arr] (sp_listFromArray l G arr ((x :: y :: z :: zs).map Prod.fst) (by rw [List.length_map]; omega) (by rw [List.length_map]; omega)) (rest := []) q1843 q1844 q99 oJ20_listFromArray pJ20_listFromArray (by decide) (by decide) (Nat.le_of_ble_eq_true rfl) [0, 1, 1, 2] [1] rfl ⟨⟨_, rfl, jpers_Es⟩, trivial⟩ (Φr := [jEs "java/lang/Object" ((x :: y :: z :: zs).map Prod.fst), jPs jInt (x :: y :: z :: zs)]) rfl (by first | omega | exact Nat.zero_le _ | (simp only [List.length_map, List.length_append, List.length_cons, List.length_nil, List.length_take, List.length_drop] at *; omega)) dJ32_of_2_60 (fun v9 Ψ hq => ?_) (fun _ _ hq => hq.elim)
    obtain ⟨r_226, rfl, rfl⟩ := hq
    show jT mJ32_of_2 l G _ _ _ X [ILN r_226 ((x :: y :: z :: zs).map Prod.fst), jEs "java/lang/Object" ((x :: y :: z :: zs).map Prod.fst), jPs jInt (x :: y :: z :: zs)] 63 [(0, .ref arr)] [.ref r_226] _
    refine jt_conv (A := [ILN r_226 ((x :: y :: z :: zs).map Prod.fst)]) (P := IL G r_226 ((x :: y :: z :: zs).map Prod.fst)) (fun h hh => ⟨h, fun _ _ q => q, Or.inr (Or.inr (jsl_one.mp hh))⟩) ?_
    show jT mJ32_of_2 l G _ _ _ X [IL G r_226 ((x :: y :: z :: zs).map Prod.fst), jEs "java/lang/Object" ((x :: y :: z :: zs).map Prod.fst), jPs jInt (x :: y :: z :: zs)] 63 [(0, .ref arr)] [.ref r_226] _
    exact jr_aret dJ32_of_2_63 rfl (Or.inl ⟨_, rfl⟩) (Or.inr ⟨_, rfl⟩) (Ψ := [IL G r_226 ((x :: y :: z :: zs).map Prod.fst)]) ⟨r_226, rfl, rfl⟩ (js_pickP [0] [] rfl trivial rfl)

