set_option maxRecDepth 100000
/-- a list and a part of it, n elements from x on -/
def ALsub (G : jG) (a s x n : Nat) (vs : List Nat) : jP := jbun (fun y : Int32 × Nat × List Value × Bool => vs.length + y.2.2.1.length ≤ 1000000 ∧ (y.2.2.2 = true → vs.length + y.2.2.1.length = 0 ∧ jSV G jiEmptyArr = .ref y.2.1) ∧ (y.2.2.2 = false → 0 < vs.length + y.2.2.1.length) ∧ x + n ≤ vs.length) (fun y => [ow a 0 [.int y.1, .ref y.2.1, .int (iI (vs.length : Int))], jA y.2.2.2 y.2.1 ((1, 5), vs.map Value.ref ++ y.2.2.1), jEs "java/lang/Object" vs, ow s 12 [.int y.1, .ref a, .null, .int (iI (x : Int)), .int (iI (n : Int))]])
theorem ALsub_fold {G : jG} {a s x n : Nat} {mc : Int32} {vs : List Nat} {arr : Nat} {junk : List Value} {f : Bool} (h1 : vs.length + junk.length ≤ 1000000) (h2 : f = true → vs.length + junk.length = 0 ∧ jSV G jiEmptyArr = .ref arr) (h3 : f = false → 0 < vs.length + junk.length) (h4 : x + n ≤ vs.length) : ∀ h, jsl [ow a 0 [.int mc, .ref arr, .int (iI (vs.length : Int))], jA f arr ((1, 5), vs.map Value.ref ++ junk), jEs "java/lang/Object" vs, ow s 12 [.int mc, .ref a, .null, .int (iI (x : Int)), .int (iI (n : Int))]] h → ALsub G a s x n vs h := fun h hh => ⟨(mc, arr, junk, f), ⟨h1, h2, h3, h4⟩, hh⟩
theorem ALsub_has {G : jG} {a s x n : Nat} {vs : List Nat} : jhas (ALsub G a s x n vs) s 12 := jhas_bun fun x _ => ⟨3, false, _, rfl⟩
abbrev mJ1_subListRangeCheck : jM := (cJ1_subListRangeCheck, RJ1, 3, (Option.none : Option FieldType), "subListRangeCheck", none)
theorem oJ1_subListRangeCheck : jcode yJ1_subListRangeCheck mJ1_subListRangeCheck := q1046
theorem pJ1_subListRangeCheck : jpar yJ1_subListRangeCheck 3 := ⟨by decide +kernel, by decide +kernel, by decide +kernel⟩
theorem sp_subListRangeCheck (l : Launch) (G : jG) (x : Nat) (y : Nat) (n : Nat) (h1 : x ≤ y) (h2 : y ≤ n) (h3 : n ≤ 2147483647) : jS l G yJ1_subListRangeCheck mJ1_subListRangeCheck 1 [.int (iI (x : Int)), .int (iI (y : Int)), .int (iI (n : Int))] [] (0) (jret (fun v9 Ψ => v9 = none ∧ Ψ = [])) := by
  refine jS_of (plainFor_of_name (by decide)) rfl rfl rfl (Nat.le_of_ble_eq_true rfl) (fun X => ?_)
  show jT mJ1_subListRangeCheck l G _ _ _ X [] 0 [(0, .int (iI (x : Int))), (1, .int (iI (y : Int))), (2, .int (iI (n : Int)))] [] _
  refine jlv_iload_n dJ1_subListRangeCheck_0 rfl 0 rfl ?_
  refine ji_if_ge 31 (by omega) dJ1_subListRangeCheck_1 (by decide) (fun h_166 => ?_) (fun h_166 => absurd h_166 (by omega))
  refine jlv_iload_n dJ1_subListRangeCheck_31 rfl 1 rfl ?_
  refine jlv_iload_n dJ1_subListRangeCheck_32 rfl 2 rfl ?_
  refine ji_icmp_le 63 (by omega) (by omega) dJ1_subListRangeCheck_33 (by decide) (fun h_167 => ?_) (fun h_167 => absurd h_167 (by omega))
  refine jlv_iload_n dJ1_subListRangeCheck_63 rfl 0 rfl ?_
  refine jlv_iload_n dJ1_subListRangeCheck_64 rfl 1 rfl ?_
  refine ji_icmp_le 109 (by omega) (by omega) dJ1_subListRangeCheck_65 (by decide) (fun h_168 => ?_) (fun h_168 => absurd h_168 (by omega))
  exact jr_vret dJ1_subListRangeCheck_109 rfl (Ψ := []) ⟨rfl, rfl⟩ (js_pickP [] [] rfl trivial rfl)

theorem sp_AbsList_init_SL (l : Launch) (G : jG) (a : Nat) : jS l G yJ1_init mJ1_init 2 [.ref a] [ow a 12 [.int (iI 0), .null, .null, .int (iI 0), .int (iI 0)]] (0) (jret (fun v9 Ψ => v9 = none ∧ Ψ = [ow a 12 [.int (iI 0), .null, .null, .int (iI 0), .int (iI 0)]])) := by
  refine jS_of (plainFor_of_name (by decide)) rfl rfl rfl (Nat.le_of_ble_eq_true rfl) (fun X => ?_)
  show jT mJ1_init l G _ _ _ X [ow a 12 [.int (iI 0), .null, .null, .int (iI 0), .int (iI 0)]] 0 [(0, .ref a)] [] _
  refine jlv_aload_n dJ1_init_0 rfl 0 rfl ?_
  refine jr_callI [] (sp_AbsColl_init l G a) (rest := []) rfl rfl rfl q171 q172 q76 oJ0_init pJ0_init (by decide) (by decide) (Nat.le_of_ble_eq_true rfl) [0] [] rfl trivial (Φr := [ow a 12 [.int (iI 0), .null, .null, .int (iI 0), .int (iI 0)]]) rfl (by first | omega | exact Nat.zero_le _) dJ1_init_1 (fun v9 Ψ hq => ?_) (fun _ _ hq => hq.elim)
  obtain ⟨rfl, rfl⟩ := hq
  show jT mJ1_init l G _ _ _ X [ow a 12 [.int (iI 0), .null, .null, .int (iI 0), .int (iI 0)]] 4 [(0, .ref a)] [] _
  refine jlv_aload_n dJ1_init_4 rfl 0 rfl ?_
  refine jlv_iconst (v := iI 0) dJ1_init_5 rfl ?_
  refine jr_put 0 rfl rfl 0 q183 (Or.inl rfl) rfl rfl rfl rfl rfl dJ1_init_6 (Φ' := [ow a 12 [.int (iI 0), .null, .null, .int (iI 0), .int (iI 0)]]) rfl ?_
  exact jr_vret dJ1_init_9 rfl (Ψ := [ow a 12 [.int (iI 0), .null, .null, .int (iI 0), .int (iI 0)]]) ⟨rfl, rfl⟩ (js_pickP [0] [] rfl trivial rfl)

abbrev mJ28_init : jM := (cJ28_init, RJ28, 4, (Option.none : Option FieldType), "<init>", none)
theorem oJ28_init : jcode yJ28_init mJ28_init := q1064
theorem pJ28_init : jpar yJ28_init 3 := ⟨by decide +kernel, by decide +kernel, by decide +kernel⟩
theorem sp_SL_init (l : Launch) (G : jG) (s : Nat) (a : Nat) (vs : List Nat) (x : Nat) (n : Nat) (hx : x + n ≤ vs.length) : jS l G yJ28_init mJ28_init 3 [.ref s, .ref a, .int (iI (x : Int)), .int (iI ((x : Int) + (n : Int)))] [ow s 12 [.int (iI 0), .null, .null, .int (iI 0), .int (iI 0)], AL G a vs] (0) (jret (fun v9 Ψ => v9 = none ∧ Ψ = [ALsub G a s x n vs])) := by
  refine jS_of (plainFor_of_name (by decide)) rfl rfl rfl (Nat.le_of_ble_eq_true rfl) (fun X => ?_)
  show jT mJ28_init l G _ _ _ X [ow s 12 [.int (iI 0), .null, .null, .int (iI 0), .int (iI 0)], AL G a vs] 0 [(0, .ref s), (1, .ref a), (2, .int (iI (x : Int))), (3, .int (iI ((x : Int) + (n : Int))))] [] _
  refine jlv_aload_n dJ28_init_0 rfl 0 rfl ?_
  refine jr_callI [] (sp_AbsList_init_SL l G s) (rest := []) rfl rfl rfl q1065 q169 q77 oJ1_init pJ1_init (by decide) (by decide) (Nat.le_of_ble_eq_true rfl) [0, 1] [] rfl trivial (Φr := [AL G a vs]) rfl (by first | omega | exact Nat.zero_le _) dJ28_init_1 (fun v9 Ψ hq => ?_) (fun _ _ hq => hq.elim)
  obtain ⟨rfl, rfl⟩ := hq
  show jT mJ28_init l G _ _ _ X [ow s 12 [.int (iI 0), .null, .null, .int (iI 0), .int (iI 0)], AL G a vs] 4 [(0, .ref s), (1, .ref a), (2, .int (iI (x : Int))), (3, .int (iI ((x : Int) + (n : Int))))] [] _
  refine jt_pickP [1, 0] [] rfl trivial (Φ' := [AL G a vs, ow s 12 [.int (iI 0), .null, .null, .int (iI 0), .int (iI 0)]]) rfl ?_
  refine jt_open ?_
  rintro ⟨mc, arr, junk, f⟩ ⟨h1, h2, h3⟩
  try dsimp only at h1 h2 h3
  show jT mJ28_init l G _ _ _ X [ow a 0 [.int mc, .ref arr, .int (iI (vs.length : Int))], jA f arr ((1, 5), vs.map Value.ref ++ junk), jEs "java/lang/Object" vs, ow s 12 [.int (iI 0), .null, .null, .int (iI 0), .int (iI 0)]] 4 [(0, .ref s), (1, .ref a), (2, .int (iI (x : Int))), (3, .int (iI ((x : Int) + (n : Int))))] [] _
  refine jlv_aload_n dJ28_init_4 rfl 0 rfl ?_
  refine jlv_aload_n dJ28_init_5 rfl 1 rfl ?_
  refine jr_putF 3 rfl rfl 1 q1066 rfl rfl rfl rfl rfl rfl rfl dJ28_init_6 (Φ' := [ow a 0 [.int mc, .ref arr, .int (iI (vs.length : Int))], jA f arr ((1, 5), vs.map Value.ref ++ junk), jEs "java/lang/Object" vs, ow s 12 [.int (iI 0), .ref a, .null, .int (iI 0), .int (iI 0)]]) rfl ?_
  refine jlv_aload_n dJ28_init_9 rfl 0 rfl ?_
  refine jlv_null dJ28_init_10 ?_
  refine jr_putF 3 rfl rfl 2 q1068 rfl rfl rfl rfl rfl rfl rfl dJ28_init_11 (Φ' := [ow a 0 [.int mc, .ref arr, .int (iI (vs.length : Int))], jA f arr ((1, 5), vs.map Value.ref ++ junk), jEs "java/lang/Object" vs, ow s 12 [.int (iI 0), .ref a, .null, .int (iI 0), .int (iI 0)]]) rfl ?_
  refine jlv_aload_n dJ28_init_14 rfl 0 rfl ?_
  refine jlv_iload_n dJ28_init_15 rfl 2 rfl ?_
  refine jr_putF 3 rfl rfl 3 q1069 rfl rfl rfl rfl rfl rfl rfl dJ28_init_16 (Φ' := [ow a 0 [.int mc, .ref arr, .int (iI (vs.length : Int))], jA f arr ((1, 5), vs.map Value.ref ++ junk), jEs "java/lang/Object" vs, ow s 12 [.int (iI 0), .ref a, .null, .int (iI (x : Int)), .int (iI 0)]]) rfl ?_
  refine jlv_aload_n dJ28_init_19 rfl 0 rfl ?_
  refine jlv_iload_n dJ28_init_20 rfl 3 rfl ?_
  refine jlv_iload_n dJ28_init_21 rfl 2 rfl ?_
  refine ji_isub (n : Int) (by omega) dJ28_init_22 ?_
  refine jr_put 3 rfl rfl 4 q1071 (Or.inl rfl) rfl rfl rfl rfl rfl dJ28_init_23 (Φ' := [ow a 0 [.int mc, .ref arr, .int (iI (vs.length : Int))], jA f arr ((1, 5), vs.map Value.ref ++ junk), jEs "java/lang/Object" vs, ow s 12 [.int (iI 0), .ref a, .null, .int (iI (x : Int)), .int (iI (n : Int))]]) rfl ?_
  refine jlv_aload_n dJ28_init_26 rfl 0 rfl ?_
  refine jlv_aload_n dJ28_init_27 rfl 1 rfl ?_
  refine jr_get 0 rfl rfl 0 q187 (Or.inr q185) rfl dJ28_init_28 ?_
  refine jr_put 3 rfl rfl 0 q188 (Or.inr q189) rfl rfl rfl rfl rfl dJ28_init_31 (Φ' := [ow a 0 [.int mc, .ref arr, .int (iI (vs.length : Int))], jA f arr ((1, 5), vs.map Value.ref ++ junk), jEs "java/lang/Object" vs, ow s 12 [.int mc, .ref a, .null, .int (iI (x : Int)), .int (iI (n : Int))]]) rfl ?_
  refine jt_pickP [0, 1, 2, 3] [] rfl trivial (Φ' := [ow a 0 [.int mc, .ref arr, .int (iI (vs.length : Int))], jA f arr ((1, 5), vs.map Value.ref ++ junk), jEs "java/lang/Object" vs, ow s 12 [.int mc, .ref a, .null, .int (iI (x : Int)), .int (iI (n : Int))]]) rfl ?_
  refine jt_fold (A := [ow a 0 [.int mc, .ref arr, .int (iI (vs.length : Int))], jA f arr ((1, 5), vs.map Value.ref ++ junk), jEs "java/lang/Object" vs, ow s 12 [.int mc, .ref a, .null, .int (iI (x : Int)), .int (iI (n : Int))]]) (P := ALsub G a s x n vs) (ALsub_fold h1 h2 h3 hx) ?_
  show jT mJ28_init l G _ _ _ X [ALsub G a s x n vs] 34 [(0, .ref s), (1, .ref a), (2, .int (iI (x : Int))), (3, .int (iI ((x : Int) + (n : Int))))] [] _
  exact jr_vret dJ28_init_34 rfl (Ψ := [ALsub G a s x n vs]) ⟨rfl, rfl⟩ (js_pickP [0] [] rfl trivial rfl)

abbrev mJ2_subList : jM := (cJ2_subList, RJ2, 3, (Option.some (FieldType.object "java/util/List")), "subList", none)
theorem oJ2_subList : jcode yJ2_subList mJ2_subList := q1042
theorem pJ2_subList : jpar yJ2_subList 2 := ⟨by decide +kernel, by decide +kernel, by decide +kernel⟩
theorem sp_AL_subList (l : Launch) (G : jG) (a : Nat) (vs : List Nat) (x : Nat) (n : Nat) (hx : x + n ≤ vs.length) : jS l G yJ2_subList mJ2_subList 4 [.ref a, .int (iI (x : Int)), .int (iI ((x : Int) + (n : Int)))] [AL G a vs] (2) (jret (fun v9 Ψ => ∃ s : Nat, v9 = some (.ref s) ∧ Ψ = [ALsub G a s x n vs])) := by
  refine jS_of (plainFor_of_name (by decide)) rfl rfl rfl (Nat.le_of_ble_eq_true rfl) (fun X => ?_)
  show jT mJ2_subList l G _ _ _ X [AL G a vs] 0 [(0, .ref a), (1, .int (iI (x : Int))), (2, .int (iI ((x : Int) + (n : Int))))] [] _
  refine jlv_iload_n dJ2_subList_0 rfl 1 rfl ?_
  refine jlv_iload_n dJ2_subList_1 rfl 2 rfl ?_
  refine jt_open ?_
  rintro ⟨mc, arr, junk, f⟩ ⟨h1, h2, h3⟩
  try dsimp only at h1 h2 h3
  show jT mJ2_subList l G _ _ _ X [ow a 0 [.int mc, .ref arr, .int (iI (vs.length : Int))], jA f arr ((1, 5), vs.map Value.ref ++ junk), jEs "java/lang/Object" vs] 2 [(0, .ref a), (1, .int (iI (x : Int))), (2, .int (iI ((x : Int) + (n : Int))))] [.int (iI ((x : Int) + (n : Int))), .int (iI (x : Int))] _
  refine jlv_aload_n dJ2_subList_2 rfl 0 rfl ?_
  refine jr_get 0 rfl rfl 2 q182 (Or.inl rfl) rfl dJ2_subList_3 ?_
  refine jr_callSI (x := ⟨"java/util/ArrayList", "subListRangeCheck", "(III)V"⟩) (owner := "java/util/AbstractList") [.int (iI (x : Int)), .int (iI ((x : Int) + (n : Int))), .int (iI (vs.length : Int))] (sp_subListRangeCheck l G x (x + n) vs.length (by omega) (hx) (by omega)) (rest := []) rfl rfl q1043 q1044 q1045 q77 oJ1_subListRangeCheck pJ1_subListRangeCheck (by decide) (by decide) (Nat.le_of_ble_eq_true rfl) [0, 1, 2] [] rfl trivial (Φr := [ow a 0 [.int mc, .ref arr, .int (iI (vs.length : Int))], jA f arr ((1, 5), vs.map Value.ref ++ junk), jEs "java/lang/Object" vs]) rfl (by first | omega | exact Nat.zero_le _) dJ2_subList_6 (fun v9 Ψ hq => ?_) (fun _ _ hq => hq.elim)
  obtain ⟨rfl, rfl⟩ := hq
  show jT mJ2_subList l G _ _ _ X [ow a 0 [.int mc, .ref arr, .int (iI (vs.length : Int))], jA f arr ((1, 5), vs.map Value.ref ++ junk), jEs "java/lang/Object" vs] 9 [(0, .ref a), (1, .int (iI (x : Int))), (2, .int (iI ((x : Int) + (n : Int))))] [] _
  refine jt_pickP [0, 1, 2] [] rfl trivial (Φ' := [ow a 0 [.int mc, .ref arr, .int (iI (vs.length : Int))], jA f arr ((1, 5), vs.map Value.ref ++ junk), jEs "java/lang/Object" vs]) rfl ?_
  refine jt_fold (A := [ow a 0 [.int mc, .ref arr, .int (iI (vs.length : Int))], jA f arr ((1, 5), vs.map Value.ref ++ junk), jEs "java/lang/Object" vs]) (P := AL G a vs) (AL_fold h1 h2 h3 rfl rfl) ?_
  show jT mJ2_subList l G _ _ _ X [AL G a vs] 9 [(0, .ref a), (1, .int (iI (x : Int))), (2, .int (iI ((x : Int) + (n : Int))))] [] _
  refine jr_new (k0 := 12) rfl q1061 q387 q110 (fs := [.int (iI 0), .null, .null, .int (iI 0), .int (iI 0)]) rfl (u := 2) (by decide) (by decide) (by omega) dJ2_subList_9 (fun s => ?_)
  refine jlv_dup dJ2_subList_12 rfl ?_
  refine jlv_aload_n dJ2_subList_13 rfl 0 rfl ?_
  refine jlv_iload_n dJ2_subList_14 rfl 1 rfl ?_
  refine jlv_iload_n dJ2_subList_15 rfl 2 rfl ?_
  refine jr_callI [.ref a, .int (iI (x : Int)), .int (iI ((x : Int) + (n : Int)))] (sp_SL_init l G s a vs x n (hx)) (rest := [.ref s]) rfl rfl rfl q1062 q1063 q110 oJ28_init pJ28_init (by decide) (by decide) (Nat.le_of_ble_eq_true rfl) [0, 1] [] rfl trivial (Φr := []) rfl (by first | omega | exact Nat.zero_le _) dJ2_subList_16 (fun v9 Ψ hq => ?_) (fun _ _ hq => hq.elim)
  obtain ⟨rfl, rfl⟩ := hq
  show jT mJ2_subList l G _ _ _ X [ALsub G a s x n vs] 19 [(0, .ref a), (1, .int (iI (x : Int))), (2, .int (iI ((x : Int) + (n : Int))))] [.ref s] _
  exact jr_aret dJ2_subList_19 rfl (Or.inl ⟨_, rfl⟩) (Or.inr ⟨_, rfl⟩) (Ψ := [ALsub G a s x n vs]) ⟨s, rfl, rfl⟩ (js_pickP [0] [] rfl trivial rfl)

abbrev mJ28_checkForComodification : jM := (cJ28_checkForComodification, RJ28, 1, (Option.none : Option FieldType), "checkForComodification", none)
theorem oJ28_checkForComodification : jcode yJ28_checkForComodification mJ28_checkForComodification := q388
theorem pJ28_checkForComodification : jpar yJ28_checkForComodification 0 := ⟨by decide +kernel, by decide +kernel, by decide +kernel⟩
theorem sp_SL_check (l : Launch) (G : jG) (s : Nat) (a : Nat) (mc : Int32) (arr : Nat) (z : Int32) (x : Int) (n : Int) : jS l G yJ28_checkForComodification mJ28_checkForComodification 1 [.ref s] [ow a 0 [.int mc, .ref arr, .int z], ow s 12 [.int mc, .ref a, .null, .int (iI x), .int (iI n)]] (0) (jret (fun v9 Ψ => v9 = none ∧ Ψ = [ow a 0 [.int mc, .ref arr, .int z], ow s 12 [.int mc, .ref a, .null, .int (iI x), .int (iI n)]])) := by
  refine jS_of (plainFor_of_name (by decide)) rfl rfl rfl (Nat.le_of_ble_eq_true rfl) (fun X => ?_)
  show jT mJ28_checkForComodification l G _ _ _ X [ow a 0 [.int mc, .ref arr, .int z], ow s 12 [.int mc, .ref a, .null, .int (iI x), .int (iI n)]] 0 [(0, .ref s)] [] _
  refine jlv_aload_n dJ28_checkForComodification_0 rfl 0 rfl ?_
  refine jr_get 1 rfl rfl 1 q1066 (Or.inl rfl) rfl dJ28_checkForComodification_1 ?_
  refine jr_get 0 rfl rfl 0 q187 (Or.inr q185) rfl dJ28_checkForComodification_4 ?_
  refine jlv_aload_n dJ28_checkForComodification_7 rfl 0 rfl ?_
  refine jr_get 1 rfl rfl 0 q188 (Or.inr q189) rfl dJ28_checkForComodification_8 ?_
  refine jlv_icmp_eq (tgt := 22) dJ28_checkForComodification_11 (by decide) (fun h_169 => ?_) (fun h_169 => ?_)
  · skip
    exact jr_vret dJ28_checkForComodification_22 rfl (Ψ := [ow a 0 [.int mc, .ref arr, .int z], ow s 12 [.int mc, .ref a, .null, .int (iI x), .int (iI n)]]) ⟨rfl, rfl⟩ (js_pickP [0, 1] [] rfl trivial rfl)
  · skip
    exact absurd rfl h_169

abbrev mJ28_size : jM := (cJ28_size, RJ28, 1, (Option.some FieldType.int), "size", none)
theorem oJ28_size : jcode yJ28_size mJ28_size := q383
theorem pJ28_size : jpar yJ28_size 0 := ⟨by decide +kernel, by decide +kernel, by decide +kernel⟩
theorem sp_SL_size (l : Launch) (G : jG) (a : Nat) (s : Nat) (x : Nat) (n : Nat) (vs : List Nat) : jS l G yJ28_size mJ28_size 2 [.ref s] [ALsub G a s x n vs] (0) (jret (fun v9 Ψ => v9 = some (.int (iI (n : Int))) ∧ Ψ = [ALsub G a s x n vs])) := by
  refine jS_of (plainFor_of_name (by decide)) rfl rfl rfl (Nat.le_of_ble_eq_true rfl) (fun X => ?_)
  show jT mJ28_size l G _ _ _ X [ALsub G a s x n vs] 0 [(0, .ref s)] [] _
  refine jt_open ?_
  rintro ⟨mc, arr, junk, f⟩ ⟨h1, h2, h3, h4⟩
  try dsimp only at h1 h2 h3 h4
  show jT mJ28_size l G _ _ _ X [ow a 0 [.int mc, .ref arr, .int (iI (vs.length : Int))], jA f arr ((1, 5), vs.map Value.ref ++ junk), jEs "java/lang/Object" vs, ow s 12 [.int mc, .ref a, .null, .int (iI (x : Int)), .int (iI (n : Int))]] 0 [(0, .ref s)] [] _
  refine jlv_aload_n dJ28_size_0 rfl 0 rfl ?_
  refine jr_callV [] (sp_SL_check l G s a mc arr (iI (vs.length : Int)) (x : Int) (n : Int)) (rest := []) 3 rfl rfl rfl q384 q386 (lw_g (lw_at lw_ms 3 rfl) rfl) q110 oJ28_checkForComodification pJ28_checkForComodification (by decide) (by decide) (Nat.le_of_ble_eq_true rfl) [0, 3, 1, 2] [] rfl trivial (Φr := [jA f arr ((1, 5), vs.map Value.ref ++ junk), jEs "java/lang/Object" vs]) rfl (by first | omega | exact Nat.zero_le _) dJ28_size_1 (fun v9 Ψ hq => ?_) (fun _ _ hq => hq.elim)
  obtain ⟨rfl, rfl⟩ := hq
  show jT mJ28_size l G _ _ _ X [ow a 0 [.int mc, .ref arr, .int (iI (vs.length : Int))], ow s 12 [.int mc, .ref a, .null, .int (iI (x : Int)), .int (iI (n : Int))], jA f arr ((1, 5), vs.map Value.ref ++ junk), jEs "java/lang/Object" vs] 4 [(0, .ref s)] [] _
  refine jlv_aload_n dJ28_size_4 rfl 0 rfl ?_
  refine jr_get 1 rfl rfl 4 q1071 (Or.inl rfl) rfl dJ28_size_5 ?_
  refine jt_pickP [0, 2, 3, 1] [] rfl trivial (Φ' := [ow a 0 [.int mc, .ref arr, .int (iI (vs.length : Int))], jA f arr ((1, 5), vs.map Value.ref ++ junk), jEs "java/lang/Object" vs, ow s 12 [.int mc, .ref a, .null, .int (iI (x : Int)), .int (iI (n : Int))]]) rfl ?_
  refine jt_fold (A := [ow a 0 [.int mc, .ref arr, .int (iI (vs.length : Int))], jA f arr ((1, 5), vs.map Value.ref ++ junk), jEs "java/lang/Object" vs, ow s 12 [.int mc, .ref a, .null, .int (iI (x : Int)), .int (iI (n : Int))]]) (P := ALsub G a s x n vs) (ALsub_fold h1 h2 h3 h4) ?_
  show jT mJ28_size l G _ _ _ X [ALsub G a s x n vs] 8 [(0, .ref s)] [.int (iI (n : Int))] _
  exact jr_zret dJ28_size_8 rfl rfl (Ψ := [ALsub G a s x n vs]) ⟨rfl, rfl⟩ (js_pickP [0] [] rfl trivial rfl)

abbrev mJ0_isEmpty : jM := (cJ0_isEmpty, RJ0, 1, (Option.some FieldType.boolean), "isEmpty", none)
theorem oJ0_isEmpty : jcode yJ0_isEmpty mJ0_isEmpty := q1186
theorem pJ0_isEmpty : jpar yJ0_isEmpty 0 := ⟨by decide +kernel, by decide +kernel, by decide +kernel⟩
theorem sp_SL_isEmpty (l : Launch) (G : jG) (a : Nat) (s : Nat) (x : Nat) (n : Nat) (vs : List Nat) (hn : n ≤ 1000000) : jS l G yJ0_isEmpty mJ0_isEmpty 3 [.ref s] [ALsub G a s x n vs] (0) (jret (fun v9 Ψ => v9 = some (.int (jB (decide (n = 0)))) ∧ Ψ = [ALsub G a s x n vs])) := by
  refine jS_of (plainFor_of_name (by decide)) rfl rfl rfl (Nat.le_of_ble_eq_true rfl) (fun X => ?_)
  show jT mJ0_isEmpty l G _ _ _ X [ALsub G a s x n vs] 0 [(0, .ref s)] [] _
  refine jlv_aload_n dJ0_isEmpty_0 rfl 0 rfl ?_
  refine jt_cls 0 rfl ALsub_has ?_
  refine jr_callA (x := ⟨"java/util/AbstractCollection", "size", "()I"⟩) (owner := "java/util/AbstractCollection") [] (sp_SL_size l G a s x n vs) (rest := []) rfl 0 rfl rfl (List.mem_of_getElem? (i := 0) rfl) q1187 q4300 q382 q4302 q110 oJ28_size (show jpar ⟨"java/util/AbstractCollection", "size", "()I"⟩ 0 from ⟨by decide +kernel, by decide +kernel, by decide +kernel⟩) (by decide) (by decide) (Nat.le_of_ble_eq_true rfl) [1, 0] [] rfl trivial (Φr := [im s 12 []]) rfl (by first | omega | exact Nat.zero_le _) dJ0_isEmpty_1 (fun v9 Ψ hq => ?_) (fun _ _ hq => hq.elim)
  obtain ⟨rfl, rfl⟩ := hq
  show jT mJ0_isEmpty l G _ _ _ X [ALsub G a s x n vs, im s 12 []] 4 [(0, .ref s)] [.int (iI (n : Int))] _
  refine ji_if_ne 11 (by omega) dJ0_isEmpty_4 (by decide) (fun h_170 => ?_) (fun h_170 => ?_)
  · skip
    refine jlv_iconst (v := iI 0) dJ0_isEmpty_11 rfl ?_
    exact jr_zret dJ0_isEmpty_12 rfl rfl (Ψ := [ALsub G a s x n vs]) ⟨(by congr 2; first | exact jB_t (decide_eq_true (by omega)) | exact jB_f (decide_eq_false (by omega))), rfl⟩ (js_pickP [0] [] rfl trivial rfl)
  · skip
    refine jlv_iconst (v := iI 1) dJ0_isEmpty_7 rfl ?_
    refine jlv_goto (tgt := 12) dJ0_isEmpty_8 (by decide) ?_
    exact jr_zret dJ0_isEmpty_12 rfl rfl (Ψ := [ALsub G a s x n vs]) ⟨(by congr 2; first | exact jB_t (decide_eq_true (by omega)) | exact jB_f (decide_eq_false (by omega))), rfl⟩ (js_pickP [0] [] rfl trivial rfl)

