set_option maxRecDepth 100000
abbrev mJ15_checkIndex : jM := (cJ15_checkIndex, RJ15, 3, (Option.some FieldType.int), "checkIndex", none)
theorem oJ15_checkIndex : jcode yJ15_checkIndex mJ15_checkIndex := q1302
theorem pJ15_checkIndex : jpar yJ15_checkIndex 3 := ⟨by decide +kernel, by decide +kernel, by decide +kernel⟩
theorem sp_checkIndex (l : Launch) (G : jG) (i : Nat) (n : Nat) (z : Value) (h1 : i < n) (h2 : n ≤ 2147483647) (hz : z = .null ∨ ∃ a, z = .ref a) : jS l G yJ15_checkIndex mJ15_checkIndex 1 [.int (iI (i : Int)), .int (iI (n : Int)), z] [] (0) (jret (fun v9 Ψ => v9 = some (.int (iI (i : Int))) ∧ Ψ = [])) := by
  refine jS_of (plainFor_of_name (by decide)) rfl rfl rfl (by rcases hz with rfl | ⟨_, rfl⟩ <;> exact Nat.le_of_ble_eq_true rfl) (fun X => ?_)
  show jT mJ15_checkIndex l G _ _ _ X [] 0 [(0, .int (iI (i : Int))), (1, .int (iI (n : Int))), (2, z)] [] _
  refine jlv_iload_n dJ15_checkIndex_0 rfl 0 rfl ?_
  refine ji_if_lt 9 (by omega) dJ15_checkIndex_1 (by decide) (fun h_1 => ?_) (fun h_1 => ?_)
  · skip
    exact absurd h_1 (by omega)
  · skip
    refine jlv_iload_n dJ15_checkIndex_4 rfl 0 rfl ?_
    refine jlv_iload_n dJ15_checkIndex_5 rfl 1 rfl ?_
    refine ji_icmp_lt 16 (by omega) (by omega) dJ15_checkIndex_6 (by decide) (fun h_2 => ?_) (fun h_2 => ?_)
    · skip
      refine jlv_iload_n dJ15_checkIndex_16 rfl 0 rfl ?_
      exact jr_zret dJ15_checkIndex_17 rfl rfl (Ψ := []) ⟨rfl, rfl⟩ (js_pickP [] [] rfl trivial rfl)
    · skip
      exact absurd h_2 (by omega)

abbrev mJ34_checkIndex : jM := (cJ34_checkIndex, RJ34, 2, (Option.some FieldType.int), "checkIndex", none)
theorem oJ34_checkIndex : jcode yJ34_checkIndex mJ34_checkIndex := q1299
theorem pJ34_checkIndex : jpar yJ34_checkIndex 2 := ⟨by decide +kernel, by decide +kernel, by decide +kernel⟩
theorem sp_Objects_checkIndex (l : Launch) (G : jG) (i : Nat) (n : Nat) (h1 : i < n) (h2 : n ≤ 2147483647) : jS l G yJ34_checkIndex mJ34_checkIndex 2 [.int (iI (i : Int)), .int (iI (n : Int))] [] (0) (jret (fun v9 Ψ => v9 = some (.int (iI (i : Int))) ∧ Ψ = [])) := by
  refine jS_of (plainFor_of_name (by decide)) rfl rfl rfl (Nat.le_of_ble_eq_true rfl) (fun X => ?_)
  show jT mJ34_checkIndex l G _ _ _ X [] 0 [(0, .int (iI (i : Int))), (1, .int (iI (n : Int)))] [] _
  refine jlv_iload_n dJ34_checkIndex_0 rfl 0 rfl ?_
  refine jlv_iload_n dJ34_checkIndex_1 rfl 1 rfl ?_
  refine jlv_null dJ34_checkIndex_2 ?_
  refine jr_callS [.int (iI (i : Int)), .int (iI (n : Int)), .null] (sp_checkIndex l G i n .null (h1) (h2) (Or.inl rfl)) (rest := []) q1300 q1301 q94 oJ15_checkIndex pJ15_checkIndex (by decide) (by decide) (Nat.le_of_ble_eq_true rfl) [] [] rfl trivial (Φr := []) rfl (by first | omega | exact Nat.zero_le _) dJ34_checkIndex_3 (fun v9 Ψ hq => ?_) (fun _ _ hq => hq.elim)
  obtain ⟨rfl, rfl⟩ := hq
  show jT mJ34_checkIndex l G _ _ _ X [] 6 [(0, .int (iI (i : Int))), (1, .int (iI (n : Int)))] [.int (iI (i : Int))] _
  exact jr_zret dJ34_checkIndex_6 rfl rfl (Ψ := []) ⟨rfl, rfl⟩ (js_pickP [] [] rfl trivial rfl)

abbrev mJ0_init : jM := (cJ0_init, RJ0, 1, (Option.none : Option FieldType), "<init>", none)
theorem oJ0_init : jcode yJ0_init mJ0_init := q173
theorem pJ0_init : jpar yJ0_init 0 := ⟨by decide +kernel, by decide +kernel, by decide +kernel⟩
theorem sp_AbsColl_init (l : Launch) (G : jG) (a : Nat) : jS l G yJ0_init mJ0_init 1 [.ref a] [] (0) (jret (fun v9 Ψ => v9 = none ∧ Ψ = [])) := by
  refine jS_of (plainFor_of_name (by decide)) rfl rfl rfl (Nat.le_of_ble_eq_true rfl) (fun X => ?_)
  show jT mJ0_init l G _ _ _ X [] 0 [(0, .ref a)] [] _
  refine jlv_aload_n dJ0_init_0 rfl 0 rfl ?_
  refine jr_objInit q174 q161 q162 (by decide) (Nat.le_of_ble_eq_true rfl) dJ0_init_1 ?_
  exact jr_vret dJ0_init_4 rfl (Ψ := []) ⟨rfl, rfl⟩ (js_pickP [] [] rfl trivial rfl)

abbrev mJ1_init : jM := (cJ1_init, RJ1, 1, (Option.none : Option FieldType), "<init>", none)
theorem oJ1_init : jcode yJ1_init mJ1_init := q170
theorem pJ1_init : jpar yJ1_init 0 := ⟨by decide +kernel, by decide +kernel, by decide +kernel⟩
theorem sp_AbsList_init_AL (l : Launch) (G : jG) (a : Nat) (x : Int32) (y : Value) (z : Int32) : jS l G yJ1_init mJ1_init 2 [.ref a] [ow a 0 [.int x, y, .int z]] (0) (jret (fun v9 Ψ => v9 = none ∧ Ψ = [ow a 0 [.int (iI 0), y, .int z]])) := by
  refine jS_of (plainFor_of_name (by decide)) rfl rfl rfl (Nat.le_of_ble_eq_true rfl) (fun X => ?_)
  show jT mJ1_init l G _ _ _ X [ow a 0 [.int x, y, .int z]] 0 [(0, .ref a)] [] _
  refine jlv_aload_n dJ1_init_0 rfl 0 rfl ?_
  refine jr_callI [] (sp_AbsColl_init l G a) (rest := []) rfl rfl rfl q171 q172 q76 oJ0_init pJ0_init (by decide) (by decide) (Nat.le_of_ble_eq_true rfl) [0] [] rfl trivial (Φr := [ow a 0 [.int x, y, .int z]]) rfl (by first | omega | exact Nat.zero_le _) dJ1_init_1 (fun v9 Ψ hq => ?_) (fun _ _ hq => hq.elim)
  obtain ⟨rfl, rfl⟩ := hq
  show jT mJ1_init l G _ _ _ X [ow a 0 [.int x, y, .int z]] 4 [(0, .ref a)] [] _
  refine jlv_aload_n dJ1_init_4 rfl 0 rfl ?_
  refine jlv_iconst (v := iI 0) dJ1_init_5 rfl ?_
  refine jr_put 0 rfl rfl 0 q183 (Or.inl rfl) rfl rfl rfl rfl rfl dJ1_init_6 (Φ' := [ow a 0 [.int (iI 0), y, .int z]]) rfl ?_
  exact jr_vret dJ1_init_9 rfl (Ψ := [ow a 0 [.int (iI 0), y, .int z]]) ⟨rfl, rfl⟩ (js_pickP [0] [] rfl trivial rfl)

abbrev mJ2_init : jM := (cJ2_init, RJ2, 1, (Option.none : Option FieldType), "<init>", none)
theorem oJ2_init : jcode yJ2_init mJ2_init := q167
theorem pJ2_init : jpar yJ2_init 0 := ⟨by decide +kernel, by decide +kernel, by decide +kernel⟩
theorem sp_AL_init (l : Launch) (G : jG) (a : Nat) : jS l G yJ2_init mJ2_init 3 [.ref a] [ow a 0 [.int (iI 0), .null, .int (iI 0)]] (0) (jret (fun v9 Ψ => v9 = none ∧ Ψ = [AL G a []])) := by
  refine jS_of (plainFor_of_name (by decide)) rfl rfl rfl (Nat.le_of_ble_eq_true rfl) (fun X => ?_)
  show jT mJ2_init l G _ _ _ X [ow a 0 [.int (iI 0), .null, .int (iI 0)]] 0 [(0, .ref a)] [] _
  refine jr_g0 (fun hg0 => ?_)
  obtain ⟨gi, ⟨gea, hgea, hgea2⟩, ⟨gem, hgem, hgem2⟩, ⟨gpr, hgpr, hgpr2⟩, ⟨gic, gicad, hgic, hgic2, hgic3⟩, ⟨gcc, gccad, hgcc, hgcc2, hgcc3⟩, grf, gks⟩ := hg0
  refine jlv_aload_n dJ2_init_0 rfl 0 rfl ?_
  refine jr_callI [] (sp_AbsList_init_AL l G a (iI 0) .null (iI 0)) (rest := []) rfl rfl rfl q168 q169 q77 oJ1_init pJ1_init (by decide) (by decide) (Nat.le_of_ble_eq_true rfl) [0] [] rfl trivial (Φr := []) rfl (by first | omega | exact Nat.zero_le _) dJ2_init_1 (fun v9 Ψ hq => ?_) (fun _ _ hq => hq.elim)
  obtain ⟨rfl, rfl⟩ := hq
  show jT mJ2_init l G _ _ _ X [ow a 0 [.int (iI 0), .null, .int (iI 0)]] 4 [(0, .ref a)] [] _
  refine jlv_aload_n dJ2_init_4 rfl 0 rfl ?_
  refine jr_getsV 7 rfl q175 hgea dJ2_init_5 ?_
  refine jr_put 0 rfl rfl 1 q177 (Or.inl rfl) rfl rfl rfl rfl rfl dJ2_init_8 (Φ' := [ow a 0 [.int (iI 0), .ref gea, .int (iI 0)]]) rfl ?_
  refine jt_old hgea2 ?_
  refine jt_Es0 (E := "java/lang/Object") ?_
  refine jt_pickP [2, 1, 0] [] rfl trivial (Φ' := [ow a 0 [.int (iI 0), .ref gea, .int (iI 0)], jA true gea ((1, 5), []), jEs "java/lang/Object" []]) rfl ?_
  refine jt_fold (A := [ow a 0 [.int (iI 0), .ref gea, .int (iI 0)], jA true gea ((1, 5), []), jEs "java/lang/Object" []]) (P := AL G a []) (AL_fold (mc := iI 0) (junk := []) (by decide) (fun _ => ⟨rfl, hgea⟩) (fun q => by cases q) rfl rfl) ?_
  show jT mJ2_init l G _ _ _ X [AL G a []] 11 [(0, .ref a)] [] _
  exact jr_vret dJ2_init_11 rfl (Ψ := [AL G a []]) ⟨rfl, rfl⟩ (js_pickP [0] [] rfl trivial rfl)

abbrev mJ2_size : jM := (cJ2_size, RJ2, 1, (Option.some FieldType.int), "size", none)
theorem oJ2_size : jcode yJ2_size mJ2_size := q380
theorem pJ2_size : jpar yJ2_size 0 := ⟨by decide +kernel, by decide +kernel, by decide +kernel⟩
theorem sp_AL_size (l : Launch) (G : jG) (a : Nat) (vs : List Nat) : jS l G yJ2_size mJ2_size 1 [.ref a] [AL G a vs] (0) (jret (fun v9 Ψ => v9 = some (.int (iI (vs.length : Int))) ∧ Ψ = [AL G a vs])) := by
  refine jS_of (plainFor_of_name (by decide)) rfl rfl rfl (Nat.le_of_ble_eq_true rfl) (fun X => ?_)
  show jT mJ2_size l G _ _ _ X [AL G a vs] 0 [(0, .ref a)] [] _
  refine jt_open ?_
  rintro ⟨mc, arr, junk, f⟩ ⟨h1, h2, h3⟩
  try dsimp only at h1 h2 h3
  show jT mJ2_size l G _ _ _ X [ow a 0 [.int mc, .ref arr, .int (iI (vs.length : Int))], jA f arr ((1, 5), vs.map Value.ref ++ junk), jEs "java/lang/Object" vs] 0 [(0, .ref a)] [] _
  refine jlv_aload_n dJ2_size_0 rfl 0 rfl ?_
  refine jr_get 0 rfl rfl 2 q182 (Or.inl rfl) rfl dJ2_size_1 ?_
  refine jt_pickP [0, 1, 2] [] rfl trivial (Φ' := [ow a 0 [.int mc, .ref arr, .int (iI (vs.length : Int))], jA f arr ((1, 5), vs.map Value.ref ++ junk), jEs "java/lang/Object" vs]) rfl ?_
  refine jt_fold (A := [ow a 0 [.int mc, .ref arr, .int (iI (vs.length : Int))], jA f arr ((1, 5), vs.map Value.ref ++ junk), jEs "java/lang/Object" vs]) (P := AL G a vs) (AL_fold h1 h2 h3 rfl rfl) ?_
  show jT mJ2_size l G _ _ _ X [AL G a vs] 4 [(0, .ref a)] [.int (iI (vs.length : Int))] _
  exact jr_zret dJ2_size_4 rfl rfl (Ψ := [AL G a vs]) ⟨rfl, rfl⟩ (js_pickP [0] [] rfl trivial rfl)

abbrev mJ2_isEmpty : jM := (cJ2_isEmpty, RJ2, 1, (Option.some FieldType.boolean), "isEmpty", none)
theorem oJ2_isEmpty : jcode yJ2_isEmpty mJ2_isEmpty := q1180
theorem pJ2_isEmpty : jpar yJ2_isEmpty 0 := ⟨by decide +kernel, by decide +kernel, by decide +kernel⟩
theorem sp_AL_isEmpty (l : Launch) (G : jG) (a : Nat) (vs : List Nat) : jS l G yJ2_isEmpty mJ2_isEmpty 1 [.ref a] [AL G a vs] (0) (jret (fun v9 Ψ => v9 = some (.int (jB (decide (vs.length = 0)))) ∧ Ψ = [AL G a vs])) := by
  refine jS_of (plainFor_of_name (by decide)) rfl rfl rfl (Nat.le_of_ble_eq_true rfl) (fun X => ?_)
  show jT mJ2_isEmpty l G _ _ _ X [AL G a vs] 0 [(0, .ref a)] [] _
  refine jt_open ?_
  rintro ⟨mc, arr, junk, f⟩ ⟨h1, h2, h3⟩
  try dsimp only at h1 h2 h3
  show jT mJ2_isEmpty l G _ _ _ X [ow a 0 [.int mc, .ref arr, .int (iI (vs.length : Int))], jA f arr ((1, 5), vs.map Value.ref ++ junk), jEs "java/lang/Object" vs] 0 [(0, .ref a)] [] _
  refine jlv_aload_n dJ2_isEmpty_0 rfl 0 rfl ?_
  refine jr_get 0 rfl rfl 2 q182 (Or.inl rfl) rfl dJ2_isEmpty_1 ?_
  refine ji_if_ne 11 (by omega) dJ2_isEmpty_4 (by decide) (fun h_3 => ?_) (fun h_3 => ?_)
  · skip
    refine jlv_iconst (v := iI 0) dJ2_isEmpty_11 rfl ?_
    refine jt_pickP [0, 1, 2] [] rfl trivial (Φ' := [ow a 0 [.int mc, .ref arr, .int (iI (vs.length : Int))], jA f arr ((1, 5), vs.map Value.ref ++ junk), jEs "java/lang/Object" vs]) rfl ?_
    refine jt_fold (A := [ow a 0 [.int mc, .ref arr, .int (iI (vs.length : Int))], jA f arr ((1, 5), vs.map Value.ref ++ junk), jEs "java/lang/Object" vs]) (P := AL G a vs) (AL_fold h1 h2 h3 rfl rfl) ?_
    show jT mJ2_isEmpty l G _ _ _ X [AL G a vs] 12 [(0, .ref a)] [.int (iI 0)] _
    exact jr_zret dJ2_isEmpty_12 rfl rfl (Ψ := [AL G a vs]) ⟨(by first | rfl | simp_all [jB_t, jB_f] | omega), rfl⟩ (js_pickP [0] [] rfl trivial rfl)
  · skip
    refine jlv_iconst (v := iI 1) dJ2_isEmpty_7 rfl ?_
    refine jlv_goto (tgt := 12) dJ2_isEmpty_8 (by decide) ?_
    refine jt_pickP [0, 1, 2] [] rfl trivial (Φ' := [ow a 0 [.int mc, .ref arr, .int (iI (vs.length : Int))], jA f arr ((1, 5), vs.map Value.ref ++ junk), jEs "java/lang/Object" vs]) rfl ?_
    refine jt_fold (A := [ow a 0 [.int mc, .ref arr, .int (iI (vs.length : Int))], jA f arr ((1, 5), vs.map Value.ref ++ junk), jEs "java/lang/Object" vs]) (P := AL G a vs) (AL_fold h1 h2 h3 rfl rfl) ?_
    show jT mJ2_isEmpty l G _ _ _ X [AL G a vs] 12 [(0, .ref a)] [.int (iI 1)] _
    exact jr_zret dJ2_isEmpty_12 rfl rfl (Ψ := [AL G a vs]) ⟨(by first | rfl | simp_all [jB_t, jB_f] | omega), rfl⟩ (js_pickP [0] [] rfl trivial rfl)

abbrev mJ2_elementData : jM := (cJ2_elementData, RJ2, 2, (Option.some (FieldType.object "java/lang/Object")), "elementData", none)
theorem oJ2_elementData : jcode yJ2_elementData mJ2_elementData := q1667
theorem pJ2_elementData : jpar yJ2_elementData 1 := ⟨by decide +kernel, by decide +kernel, by decide +kernel⟩
theorem sp_AL_elementData (l : Launch) (G : jG) (a : Nat) (vs : List Nat) (i : Nat) (v : Nat) (hv : vs[i]? = some v) : jS l G yJ2_elementData mJ2_elementData 1 [.ref a, .int (iI (i : Int))] [AL G a vs] (0) (jret (fun v9 Ψ => v9 = some (.ref v) ∧ Ψ = [AL G a vs])) := by
  refine jS_of (plainFor_of_name (by decide)) rfl rfl rfl (Nat.le_of_ble_eq_true rfl) (fun X => ?_)
  show jT mJ2_elementData l G _ _ _ X [AL G a vs] 0 [(0, .ref a), (1, .int (iI (i : Int)))] [] _
  refine jt_open ?_
  rintro ⟨mc, arr, junk, f⟩ ⟨h1, h2, h3⟩
  try dsimp only at h1 h2 h3
  show jT mJ2_elementData l G _ _ _ X [ow a 0 [.int mc, .ref arr, .int (iI (vs.length : Int))], jA f arr ((1, 5), vs.map Value.ref ++ junk), jEs "java/lang/Object" vs] 0 [(0, .ref a), (1, .int (iI (i : Int)))] [] _
  have hi := jlt hv
  refine jlv_aload_n dJ2_elementData_0 rfl 0 rfl ?_
  refine jr_get 0 rfl rfl 1 q177 (Or.inl rfl) rfl dJ2_elementData_1 ?_
  refine jlv_iload_n dJ2_elementData_4 rfl 1 rfl ?_
  refine jr_aald 1 rfl (E := "java/lang/Object") rfl (n := i) (iI_nat (by omega)) (v := .ref v) (al_at hv) dJ2_elementData_5 ?_
  refine jt_pickP [0, 1, 2] [] rfl trivial (Φ' := [ow a 0 [.int mc, .ref arr, .int (iI (vs.length : Int))], jA f arr ((1, 5), vs.map Value.ref ++ junk), jEs "java/lang/Object" vs]) rfl ?_
  refine jt_fold (A := [ow a 0 [.int mc, .ref arr, .int (iI (vs.length : Int))], jA f arr ((1, 5), vs.map Value.ref ++ junk), jEs "java/lang/Object" vs]) (P := AL G a vs) (AL_fold h1 h2 h3 rfl rfl) ?_
  show jT mJ2_elementData l G _ _ _ X [AL G a vs] 6 [(0, .ref a), (1, .int (iI (i : Int)))] [.ref v] _
  exact jr_aret dJ2_elementData_6 rfl (Or.inl ⟨_, rfl⟩) (Or.inr ⟨_, rfl⟩) (Ψ := [AL G a vs]) ⟨rfl, rfl⟩ (js_pickP [0] [] rfl trivial rfl)

abbrev mJ2_get : jM := (cJ2_get, RJ2, 2, (Option.some (FieldType.object "java/lang/Object")), "get", none)
theorem oJ2_get : jcode yJ2_get mJ2_get := q1662
theorem pJ2_get : jpar yJ2_get 1 := ⟨by decide +kernel, by decide +kernel, by decide +kernel⟩
theorem sp_AL_get (l : Launch) (G : jG) (a : Nat) (vs : List Nat) (i : Nat) (v : Nat) (hv : vs[i]? = some v) : jS l G yJ2_get mJ2_get 3 [.ref a, .int (iI (i : Int))] [AL G a vs] (0) (jret (fun v9 Ψ => v9 = some (.ref v) ∧ Ψ = [AL G a vs])) := by
  refine jS_of (plainFor_of_name (by decide)) rfl rfl rfl (Nat.le_of_ble_eq_true rfl) (fun X => ?_)
  show jT mJ2_get l G _ _ _ X [AL G a vs] 0 [(0, .ref a), (1, .int (iI (i : Int)))] [] _
  have hi := jlt hv
  refine jt_open ?_
  rintro ⟨mc, arr, junk, f⟩ ⟨h1, h2, h3⟩
  try dsimp only at h1 h2 h3
  show jT mJ2_get l G _ _ _ X [ow a 0 [.int mc, .ref arr, .int (iI (vs.length : Int))], jA f arr ((1, 5), vs.map Value.ref ++ junk), jEs "java/lang/Object" vs] 0 [(0, .ref a), (1, .int (iI (i : Int)))] [] _
  refine jlv_iload_n dJ2_get_0 rfl 1 rfl ?_
  refine jlv_aload_n dJ2_get_1 rfl 0 rfl ?_
  refine jr_get 0 rfl rfl 2 q182 (Or.inl rfl) rfl dJ2_get_2 ?_
  refine jr_callS [.int (iI (i : Int)), .int (iI (vs.length : Int))] (sp_Objects_checkIndex l G i vs.length (hi) (by omega)) (rest := []) q1663 q1298 q116 oJ34_checkIndex pJ34_checkIndex (by decide) (by decide) (Nat.le_of_ble_eq_true rfl) [0, 1, 2] [] rfl trivial (Φr := [ow a 0 [.int mc, .ref arr, .int (iI (vs.length : Int))], jA f arr ((1, 5), vs.map Value.ref ++ junk), jEs "java/lang/Object" vs]) rfl (by first | omega | exact Nat.zero_le _) dJ2_get_5 (fun v9 Ψ hq => ?_) (fun _ _ hq => hq.elim)
  obtain ⟨rfl, rfl⟩ := hq
  show jT mJ2_get l G _ _ _ X [ow a 0 [.int mc, .ref arr, .int (iI (vs.length : Int))], jA f arr ((1, 5), vs.map Value.ref ++ junk), jEs "java/lang/Object" vs] 8 [(0, .ref a), (1, .int (iI (i : Int)))] [.int (iI (i : Int))] _
  refine jlv_pop dJ2_get_8 rfl ?_
  refine jlv_aload_n dJ2_get_9 rfl 0 rfl ?_
  refine jlv_iload_n dJ2_get_10 rfl 1 rfl ?_
  refine jt_pickP [0, 1, 2] [] rfl trivial (Φ' := [ow a 0 [.int mc, .ref arr, .int (iI (vs.length : Int))], jA f arr ((1, 5), vs.map Value.ref ++ junk), jEs "java/lang/Object" vs]) rfl ?_
  refine jt_fold (A := [ow a 0 [.int mc, .ref arr, .int (iI (vs.length : Int))], jA f arr ((1, 5), vs.map Value.ref ++ junk), jEs "java/lang/Object" vs]) (P := AL G a vs) (AL_fold h1 h2 h3 rfl rfl) ?_
  show jT mJ2_get l G _ _ _ X [AL G a vs] 11 [(0, .ref a), (1, .int (iI (i : Int)))] [.int (iI (i : Int)), .ref a] _
  refine jt_cls 0 rfl AL_has ?_
  refine jr_callV [.int (iI (i : Int))] (sp_AL_elementData l G a vs i v (hv)) (rest := []) 0 rfl rfl rfl q1664 q1665 q1666 q78 oJ2_elementData pJ2_elementData (by decide) (by decide) (Nat.le_of_ble_eq_true rfl) [1, 0] [] rfl trivial (Φr := [im a 0 []]) rfl (by first | omega | exact Nat.zero_le _) dJ2_get_11 (fun v9 Ψ hq => ?_) (fun _ _ hq => hq.elim)
  obtain ⟨rfl, rfl⟩ := hq
  show jT mJ2_get l G _ _ _ X [AL G a vs, im a 0 []] 14 [(0, .ref a), (1, .int (iI (i : Int)))] [.ref v] _
  exact jr_aret dJ2_get_14 rfl (Or.inl ⟨_, rfl⟩) (Or.inr ⟨_, rfl⟩) (Ψ := [AL G a vs]) ⟨rfl, rfl⟩ (js_pickP [0] [] rfl trivial rfl)

