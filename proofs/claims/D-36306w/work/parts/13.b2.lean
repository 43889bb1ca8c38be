set_option maxRecDepth 100000
theorem jB_or (p q : Bool) : jB p ||| jB q = jB (p || q) := by cases p <;> cases q <;> rfl
theorem sp_ASB_lengthR (l : Launch) (G : jG) (a : Nat) (v : Nat) (c : Int32) (m : Int32) (n : Int32) : jS l G yJ3_length mJ3_length 1 [.ref a] [ow a 1 [.ref v, .int c, .int m, .int n]] (0) (jret (fun v9 Ψ => v9 = some (.int n) ∧ Ψ = [ow a 1 [.ref v, .int c, .int m, .int n]])) := by
  refine jS_of (plainFor_of_name (by decide)) rfl rfl rfl (Nat.le_of_ble_eq_true rfl) (fun X => ?_)
  show jT mJ3_length l G _ _ _ X [ow a 1 [.ref v, .int c, .int m, .int n]] 0 [(0, .ref a)] [] _
  refine jlv_aload_n dJ3_length_0 rfl 0 rfl ?_
  refine jr_get 0 rfl rfl 3 q222 (Or.inl rfl) rfl dJ3_length_1 ?_
  exact jr_zret dJ3_length_4 rfl rfl (Ψ := [ow a 1 [.ref v, .int c, .int m, .int n]]) ⟨rfl, rfl⟩ (js_pickP [0] [] rfl trivial rfl)

theorem sp_SB_lengthR (l : Launch) (G : jG) (a : Nat) (v : Nat) (c : Int32) (m : Int32) (n : Int32) : jS l G yJ4_length mJ4_length 2 [.ref a] [ow a 1 [.ref v, .int c, .int m, .int n]] (0) (jret (fun v9 Ψ => v9 = some (.int n) ∧ Ψ = [ow a 1 [.ref v, .int c, .int m, .int n]])) := by
  refine jS_of (plainFor_of_name (by decide)) rfl rfl rfl (Nat.le_of_ble_eq_true rfl) (fun X => ?_)
  show jT mJ4_length l G _ _ _ X [ow a 1 [.ref v, .int c, .int m, .int n]] 0 [(0, .ref a)] [] _
  refine jlv_aload_n dJ4_length_0 rfl 0 rfl ?_
  refine jr_callSup [] (sp_ASB_lengthR l G a v c m n) (rest := []) (by decide) rfl 0 rfl rfl q610 q606 q605 q231 q79 oJ3_length pJ3_length (by decide) (by decide) (Nat.le_of_ble_eq_true rfl) [0] [] rfl trivial (Φr := []) rfl (by first | omega | exact Nat.zero_le _) dJ4_length_1 (fun v9 Ψ hq => ?_) (fun _ _ hq => hq.elim)
  obtain ⟨rfl, rfl⟩ := hq
  show jT mJ4_length l G _ _ _ X [ow a 1 [.ref v, .int c, .int m, .int n]] 4 [(0, .ref a)] [.int n] _
  exact jr_zret dJ4_length_4 rfl rfl (Ψ := [ow a 1 [.ref v, .int c, .int m, .int n]]) ⟨rfl, rfl⟩ (js_pickP [0] [] rfl trivial rfl)

theorem sp_ASB_isLatin1R (l : Launch) (G : jG) (a : Nat) (v : Nat) (m : Int32) (n : Int32) : jS l G yJ3_isLatin1 mJ3_isLatin1 1 [.ref a] [ow a 1 [.ref v, .int (iI 0), .int m, .int n]] (0) (jret (fun v9 Ψ => v9 = some (.int (iI 1)) ∧ Ψ = [ow a 1 [.ref v, .int (iI 0), .int m, .int n]])) := by
  refine jS_of (plainFor_of_name (by decide)) rfl rfl rfl (Nat.le_of_ble_eq_true rfl) (fun X => ?_)
  show jT mJ3_isLatin1 l G _ _ _ X [ow a 1 [.ref v, .int (iI 0), .int m, .int n]] 0 [(0, .ref a)] [] _
  refine jr_g0 (fun hg0 => ?_)
  obtain ⟨gi, ⟨gea, hgea, hgea2⟩, ⟨gem, hgem, hgem2⟩, ⟨gpr, hgpr, hgpr2⟩, ⟨gic, gicad, hgic, hgic2, hgic3⟩, ⟨gcc, gccad, hgcc, hgcc2, hgcc3⟩, grf, gks⟩ := hg0
  refine jr_getsV 3 rfl q209 (v := .int (iI 1)) (gi (3, 1) (List.mem_of_getElem? (i := 0) rfl)) dJ3_isLatin1_0 ?_
  refine ji_if_eq 17 (by decide) dJ3_isLatin1_3 (by decide) (fun h_71 => absurd h_71 (by decide)) (fun h_71 => ?_)
  refine jlv_aload_n dJ3_isLatin1_6 rfl 0 rfl ?_
  refine jr_get 0 rfl rfl 1 q219 (Or.inl rfl) rfl dJ3_isLatin1_7 ?_
  refine ji_if_ne 17 (by decide) dJ3_isLatin1_10 (by decide) (fun h_72 => absurd h_72 (by decide)) (fun h_72 => ?_)
  refine jlv_iconst (v := iI 1) dJ3_isLatin1_13 rfl ?_
  refine jlv_goto (tgt := 18) dJ3_isLatin1_14 (by decide) ?_
  exact jr_zret dJ3_isLatin1_18 rfl rfl (Ψ := [ow a 1 [.ref v, .int (iI 0), .int m, .int n]]) ⟨rfl, rfl⟩ (js_pickP [0] [] rfl trivial rfl)

abbrev mJ5_init_2 : jM := (cJ5_init_2, RJ5, 5, (Option.none : Option FieldType), "<init>", none)
theorem oJ5_init_2 : jcode yJ5_init_2 mJ5_init_2 := q597
theorem pJ5_init_2 : jpar yJ5_init_2 2 := ⟨by decide +kernel, by decide +kernel, by decide +kernel⟩
theorem sp_S_initASB (l : Launch) (G : jG) (s : Nat) (a : Nat) (cap : Nat) (cs : List Nat) : jS l G yJ5_init_2 mJ5_init_2 4 [.ref s, .ref a, .null] [ow s 2 [.null, .int (iI 0), .int (iI 0), .int (iI 0)], SB a cap cs] ((cs.length + 7) / 4) (jret (fun v9 Ψ => ∃ w : Nat, v9 = none ∧ Ψ = [ow s 2 [.ref w, .int (iI 0), .int (iI 0), .int (iI 0)], oa w 0 (lb cs), SB a cap cs])) := by
  refine jS_of (plainFor_of_name (by decide)) rfl rfl rfl (Nat.le_of_ble_eq_true rfl) (fun X => ?_)
  show jT mJ5_init_2 l G _ _ _ X [ow s 2 [.null, .int (iI 0), .int (iI 0), .int (iI 0)], SB a cap cs] 0 [(0, .ref s), (1, .ref a), (2, .null)] [] _
  refine jlv_aload_n dJ5_init_2_0 rfl 0 rfl ?_
  refine jr_objInit q598 q161 q162 (by decide) (Nat.le_of_ble_eq_true rfl) dJ5_init_2_1 ?_
  refine jlv_aload_n dJ5_init_2_4 rfl 1 rfl ?_
  refine jt_pickP [1, 0] [] rfl trivial (Φ' := [SB a cap cs, ow s 2 [.null, .int (iI 0), .int (iI 0), .int (iI 0)]]) rfl ?_
  refine jt_open ?_
  rintro ⟨m, v, junk⟩ ⟨hb, hcap, hmx, hj⟩
  try dsimp only at hb hcap hmx hj
  show jT mJ5_init_2 l G _ _ _ X [ow a 1 [.ref v, .int (iI 0), .int (jB m), .int (iI (cs.length : Int))], oa v 0 (lb cs ++ junk), ow s 2 [.null, .int (iI 0), .int (iI 0), .int (iI 0)]] 5 [(0, .ref s), (1, .ref a), (2, .null)] [.ref a] _
  refine jr_callU (x := ⟨"java/lang/AbstractStringBuilder", "getValue", "()[B"⟩) (owner := "java/lang/AbstractStringBuilder") [] (sp_ASB_getValue l G a v (iI 0) (jB m) (iI (cs.length : Int))) (rest := []) rfl 0 rfl rfl rfl q599 q601 q600 q602 q79 oJ3_getValue pJ3_getValue (by decide) (by decide) (Nat.le_of_ble_eq_true rfl) [0, 1, 2] [] rfl trivial (Φr := [oa v 0 (lb cs ++ junk), ow s 2 [.null, .int (iI 0), .int (iI 0), .int (iI 0)]]) rfl (by first | omega | exact Nat.zero_le _) dJ5_init_2_5 (fun v9 Ψ hq => ?_) (fun _ _ hq => hq.elim)
  obtain ⟨rfl, rfl⟩ := hq
  show jT mJ5_init_2 l G _ _ _ X [ow a 1 [.ref v, .int (iI 0), .int (jB m), .int (iI (cs.length : Int))], oa v 0 (lb cs ++ junk), ow s 2 [.null, .int (iI 0), .int (iI 0), .int (iI 0)]] 8 [(0, .ref s), (1, .ref a), (2, .null)] [.ref v] _
  refine jlv_astore_n (lv' := [(3, .ref v), (0, .ref s), (1, .ref a), (2, .null)]) dJ5_init_2_8 rfl (by decide) rfl ?_
  refine jlv_aload_n dJ5_init_2_9 rfl 2 rfl ?_
  refine jr_callO (x := ⟨"java/lang/AbstractStringBuilder", "length", "()I"⟩) (owner := "java/lang/AbstractStringBuilder") [] (sp_SB_lengthR l G a v (iI 0) (jB m) (iI (cs.length : Int))) (rest := []) rfl 0 rfl rfl q605 q611 q604 q606 q608 q607 q80 oJ4_length ⟨by decide +kernel, by decide +kernel, by decide +kernel⟩ (by decide) (by decide) (Nat.le_of_ble_eq_true rfl) [0, 1, 2] [] rfl trivial (Φr := [oa v 0 (lb cs ++ junk), ow s 2 [.null, .int (iI 0), .int (iI 0), .int (iI 0)]]) rfl (by first | omega | exact Nat.zero_le _) dJ5_init_2_10 (fun v9 Ψ hq => ?_) (fun _ _ hq => hq.elim)
  obtain ⟨rfl, rfl⟩ := hq
  show jT mJ5_init_2 l G _ _ _ X [ow a 1 [.ref v, .int (iI 0), .int (jB m), .int (iI (cs.length : Int))], oa v 0 (lb cs ++ junk), ow s 2 [.null, .int (iI 0), .int (iI 0), .int (iI 0)]] 13 [(3, .ref v), (0, .ref s), (1, .ref a), (2, .null)] [.int (iI (cs.length : Int))] _
  refine jlv_istore (lv' := [(4, .int (iI (cs.length : Int))), (3, .ref v), (0, .ref s), (1, .ref a), (2, .null)]) dJ5_init_2_13 (by decide) rfl ?_
  refine jlv_aload_n dJ5_init_2_15 rfl 3 rfl ?_
  refine jr_callU (x := ⟨"java/lang/AbstractStringBuilder", "isLatin1", "()Z"⟩) (owner := "java/lang/AbstractStringBuilder") [] (sp_ASB_isLatin1R l G a v (jB m) (iI (cs.length : Int))) (rest := []) rfl 0 rfl rfl rfl q612 q488 q487 q489 q79 oJ3_isLatin1 pJ3_isLatin1 (by decide) (by decide) (Nat.le_of_ble_eq_true rfl) [0, 1, 2] [] rfl trivial (Φr := [oa v 0 (lb cs ++ junk), ow s 2 [.null, .int (iI 0), .int (iI 0), .int (iI 0)]]) rfl (by first | omega | exact Nat.zero_le _) dJ5_init_2_16 (fun v9 Ψ hq => ?_) (fun _ _ hq => hq.elim)
  obtain ⟨rfl, rfl⟩ := hq
  show jT mJ5_init_2 l G _ _ _ X [ow a 1 [.ref v, .int (iI 0), .int (jB m), .int (iI (cs.length : Int))], oa v 0 (lb cs ++ junk), ow s 2 [.null, .int (iI 0), .int (iI 0), .int (iI 0)]] 19 [(4, .int (iI (cs.length : Int))), (3, .ref v), (0, .ref s), (1, .ref a), (2, .null)] [.int (iI 1)] _
  refine ji_if_eq 41 (by decide) dJ5_init_2_19 (by decide) (fun h_73 => absurd h_73 (by decide)) (fun h_73 => ?_)
  refine jlv_aload_n dJ5_init_2_22 rfl 2 rfl ?_
  refine jlv_iconst (v := iI 0) dJ5_init_2_23 rfl ?_
  refine jr_putF 2 rfl rfl 1 q676 rfl rfl rfl rfl rfl rfl rfl dJ5_init_2_24 (Φ' := [ow a 1 [.ref v, .int (iI 0), .int (jB m), .int (iI (cs.length : Int))], oa v 0 (lb cs ++ junk), ow s 2 [.null, .int (iI 0), .int (iI 0), .int (iI 0)]]) rfl ?_
  refine jlv_aload_n dJ5_init_2_27 rfl 2 rfl ?_
  refine jlv_aload_n dJ5_init_2_28 rfl 1 rfl ?_
  refine jlv_iconst (v := iI 0) dJ5_init_2_29 rfl ?_
  refine jlv_iload dJ5_init_2_30 0 rfl ?_
  refine jr_callS [.ref v, .int (iI 0), .int (iI (cs.length : Int))] (sp_copyR l G false v (lb cs ++ junk) 0 cs.length (Nat.zero_le _) (by rw [sb_len]; omega) (by rw [sb_len]; omega) (jfit_app (jfit_lb hb) hj)) (rest := [.ref s]) q613 q614 q86 oJ9_copyOfRange pJ9_copyOfRange (by decide) (by decide) (Nat.le_of_ble_eq_true rfl) [1, 0, 2] [] rfl trivial (Φr := [ow a 1 [.ref v, .int (iI 0), .int (jB m), .int (iI (cs.length : Int))], ow s 2 [.null, .int (iI 0), .int (iI 0), .int (iI 0)]]) rfl (by first | omega | exact Nat.zero_le _) dJ5_init_2_32 (fun v9 Ψ hq => ?_) (fun _ _ hq => hq.elim)
  obtain ⟨w, rfl, rfl⟩ := hq
  show jT mJ5_init_2 l G _ _ _ X [oa v 0 (lb cs ++ junk), oa w 0 (((lb cs ++ junk).drop 0).take (cs.length - 0)), ow a 1 [.ref v, .int (iI 0), .int (jB m), .int (iI (cs.length : Int))], ow s 2 [.null, .int (iI 0), .int (iI 0), .int (iI 0)]] 35 [(4, .int (iI (cs.length : Int))), (3, .ref v), (0, .ref s), (1, .ref a), (2, .null)] [.ref w, .ref s] _
  refine jr_putF 3 rfl rfl 0 q675 rfl rfl rfl rfl rfl rfl rfl dJ5_init_2_35 (Φ' := [oa v 0 (lb cs ++ junk), oa w 0 (((lb cs ++ junk).drop 0).take (cs.length - 0)), ow a 1 [.ref v, .int (iI 0), .int (jB m), .int (iI (cs.length : Int))], ow s 2 [.ref w, .int (iI 0), .int (iI 0), .int (iI 0)]]) rfl ?_
  refine jlv_goto (tgt := 97) dJ5_init_2_38 (by decide) ?_
  refine jt_pickP [2, 0, 1, 3] [] rfl trivial (Φ' := [ow a 1 [.ref v, .int (iI 0), .int (jB m), .int (iI (cs.length : Int))], oa v 0 (lb cs ++ junk), oa w 0 (((lb cs ++ junk).drop 0).take (cs.length - 0)), ow s 2 [.ref w, .int (iI 0), .int (iI 0), .int (iI 0)]]) rfl ?_
  refine jt_fold (A := [ow a 1 [.ref v, .int (iI 0), .int (jB m), .int (iI (cs.length : Int))], oa v 0 (lb cs ++ junk)]) (P := SB a cap cs) (SB_fold hb hcap hmx hj rfl rfl) ?_
  show jT mJ5_init_2 l G _ _ _ X [SB a cap cs, oa w 0 (((lb cs ++ junk).drop 0).take (cs.length - 0)), ow s 2 [.ref w, .int (iI 0), .int (iI 0), .int (iI 0)]] 97 [(4, .int (iI (cs.length : Int))), (3, .ref v), (0, .ref s), (1, .ref a), (2, .null)] [] _
  refine jt_same 1 (P := oa w 0 (((lb cs ++ junk).drop 0).take (cs.length - 0))) (P' := oa w 0 (lb cs)) rfl (by rw [List.drop_zero, Nat.sub_zero, List.take_append_of_le_length (by rw [lb_len]; exact Nat.le_refl _), List.take_of_length_le (by rw [lb_len]; exact Nat.le_refl _)]) (Φ' := [SB a cap cs, oa w 0 (lb cs), ow s 2 [.ref w, .int (iI 0), .int (iI 0), .int (iI 0)]]) rfl ?_
  exact jr_vret dJ5_init_2_97 rfl (Ψ := [ow s 2 [.ref w, .int (iI 0), .int (iI 0), .int (iI 0)], oa w 0 (lb cs), SB a cap cs]) ⟨w, rfl, rfl⟩ (js_pickP [2, 1, 0] [] rfl trivial rfl)

abbrev mJ5_init : jM := (cJ5_init, RJ5, 2, (Option.none : Option FieldType), "<init>", none)
theorem oJ5_init : jcode yJ5_init mJ5_init := q594
theorem pJ5_init : jpar yJ5_init 1 := ⟨by decide +kernel, by decide +kernel, by decide +kernel⟩
theorem sp_S_initSB (l : Launch) (G : jG) (s : Nat) (a : Nat) (cap : Nat) (cs : List Nat) : jS l G yJ5_init mJ5_init 5 [.ref s, .ref a] [ow s 2 [.null, .int (iI 0), .int (iI 0), .int (iI 0)], SB a cap cs] ((cs.length + 7) / 4) (jret (fun v9 Ψ => ∃ w : Nat, v9 = none ∧ Ψ = [ow s 2 [.ref w, .int (iI 0), .int (iI 0), .int (iI 0)], oa w 0 (lb cs), SB a cap cs])) := by
  refine jS_of (plainFor_of_name (by decide)) rfl rfl rfl (Nat.le_of_ble_eq_true rfl) (fun X => ?_)
  show jT mJ5_init l G _ _ _ X [ow s 2 [.null, .int (iI 0), .int (iI 0), .int (iI 0)], SB a cap cs] 0 [(0, .ref s), (1, .ref a)] [] _
  refine jlv_aload_n dJ5_init_0 rfl 0 rfl ?_
  refine jlv_aload_n dJ5_init_1 rfl 1 rfl ?_
  refine jlv_null dJ5_init_2 ?_
  refine jr_callI [.ref a, .null] (sp_S_initASB l G s a cap cs) (rest := []) rfl rfl rfl q595 q596 q81 oJ5_init_2 pJ5_init_2 (by decide) (by decide) (Nat.le_of_ble_eq_true rfl) [0, 1] [] rfl trivial (Φr := []) rfl (by first | omega | exact Nat.zero_le _) dJ5_init_3 (fun v9 Ψ hq => ?_) (fun _ _ hq => hq.elim)
  obtain ⟨w, rfl, rfl⟩ := hq
  show jT mJ5_init l G _ _ _ X [ow s 2 [.ref w, .int (iI 0), .int (iI 0), .int (iI 0)], oa w 0 (lb cs), SB a cap cs] 6 [(0, .ref s), (1, .ref a)] [] _
  exact jr_vret dJ5_init_6 rfl (Ψ := [ow s 2 [.ref w, .int (iI 0), .int (iI 0), .int (iI 0)], oa w 0 (lb cs), SB a cap cs]) ⟨w, rfl, rfl⟩ (js_pickP [0, 1, 2] [] rfl trivial rfl)

abbrev mJ4_toString : jM := (cJ4_toString, RJ4, 1, (Option.some (FieldType.object "java/lang/String")), "toString", none)
theorem oJ4_toString : jcode yJ4_toString mJ4_toString := q589
theorem pJ4_toString : jpar yJ4_toString 0 := ⟨by decide +kernel, by decide +kernel, by decide +kernel⟩
theorem sp_SB_toString (l : Launch) (G : jG) (a : Nat) (cap : Nat) (cs : List Nat) : jS l G yJ4_toString mJ4_toString 6 [.ref a] [SB a cap cs] ((cs.length + 7) / 4 + 1) (jret (fun v9 Ψ => ∃ r : Nat, v9 = some (.ref r) ∧ Ψ = [jLs r cs, SB a cap cs])) := by
  refine jS_of (plainFor_of_name (by decide)) rfl rfl rfl (Nat.le_of_ble_eq_true rfl) (fun X => ?_)
  show jT mJ4_toString l G _ _ _ X [SB a cap cs] 0 [(0, .ref a)] [] _
  refine jt_pure 0 rfl SB_spec (fun hsp => ?_)
  show jT mJ4_toString l G _ _ _ X [SB a cap cs] 0 [(0, .ref a)] [] _
  refine jr_new (k0 := 2) rfl q590 q591 q81 (fs := [.null, .int (iI 0), .int (iI 0), .int (iI 0)]) rfl (u := 1) (by decide) (by decide) (by omega) dJ4_toString_0 (fun r => ?_)
  refine jlv_dup dJ4_toString_3 rfl ?_
  refine jlv_aload_n dJ4_toString_4 rfl 0 rfl ?_
  refine jr_callI [.ref a] (sp_S_initSB l G r a cap cs) (rest := [.ref r]) rfl rfl rfl q592 q593 q81 oJ5_init pJ5_init (by decide) (by decide) (Nat.le_of_ble_eq_true rfl) [0, 1] [] rfl trivial (Φr := []) rfl (by first | omega | exact Nat.zero_le _) dJ4_toString_5 (fun v9 Ψ hq => ?_) (fun _ _ hq => hq.elim)
  obtain ⟨w, rfl, rfl⟩ := hq
  show jT mJ4_toString l G _ _ _ X [ow r 2 [.ref w, .int (iI 0), .int (iI 0), .int (iI 0)], oa w 0 (lb cs), SB a cap cs] 8 [(0, .ref a)] [.ref r] _
  refine jt_freeze 0 rfl (Φ' := [im r 2 [.ref w, .int (iI 0), .int (iI 0), .int (iI 0)], oa w 0 (lb cs), SB a cap cs]) rfl ?_
  refine jt_take 0 2 rfl (Φ' := [im r 2 [.ref w, .int (iI 0)], oa w 0 (lb cs), SB a cap cs]) rfl ?_
  refine jt_freeze 1 rfl (Φ' := [im r 2 [.ref w, .int (iI 0)], ia w 0 (lb cs), SB a cap cs]) rfl ?_
  refine jt_pickP [0, 1, 2] [] rfl trivial (Φ' := [im r 2 [.ref w, .int (iI 0)], ia w 0 (lb cs), SB a cap cs]) rfl ?_
  refine jt_fold (A := [im r 2 [.ref w, .int (iI 0)], ia w 0 (lb cs)]) (P := jLs r cs) (jLs_fold hsp.1 (by omega) rfl rfl) ?_
  show jT mJ4_toString l G _ _ _ X [jLs r cs, SB a cap cs] 8 [(0, .ref a)] [.ref r] _
  exact jr_aret dJ4_toString_8 rfl (Or.inl ⟨_, rfl⟩) (Or.inr ⟨_, rfl⟩) (Ψ := [jLs r cs, SB a cap cs]) ⟨r, rfl, rfl⟩ (js_pickP [0, 1] [] rfl trivial rfl)

abbrev mJ3_charAt : jM := (cJ3_charAt, RJ3, 5, (Option.some FieldType.char), "charAt", none)
theorem oJ3_charAt : jcode yJ3_charAt mJ3_charAt := q2285
theorem pJ3_charAt : jpar yJ3_charAt 1 := ⟨by decide +kernel, by decide +kernel, by decide +kernel⟩
theorem sp_ASB_charAt (l : Launch) (G : jG) (a : Nat) (cap : Nat) (cs : List Nat) (i : Nat) (c : Nat) (hc : cs[i]? = some c) : jS l G yJ3_charAt mJ3_charAt 3 [.ref a, .int (iI (i : Int))] [SB a cap cs] (0) (jret (fun v9 Ψ => v9 = some (.int (iI (c : Int))) ∧ Ψ = [SB a cap cs])) := by
  refine jS_of (plainFor_of_name (by decide)) rfl rfl rfl (Nat.le_of_ble_eq_true rfl) (fun X => ?_)
  show jT mJ3_charAt l G _ _ _ X [SB a cap cs] 0 [(0, .ref a), (1, .int (iI (i : Int)))] [] _
  have hi := jlt hc
  refine jt_open ?_
  rintro ⟨m, v, junk⟩ ⟨hb, hcap, hmx, hj⟩
  try dsimp only at hb hcap hmx hj
  show jT mJ3_charAt l G _ _ _ X [ow a 1 [.ref v, .int (iI 0), .int (jB m), .int (iI (cs.length : Int))], oa v 0 (lb cs ++ junk)] 0 [(0, .ref a), (1, .int (iI (i : Int)))] [] _
  have hb1 := hb c (l_mem hc)
  refine jlv_aload_n dJ3_charAt_0 rfl 0 rfl ?_
  refine jr_get 0 rfl rfl 1 q219 (Or.inl rfl) rfl dJ3_charAt_1 ?_
  refine jlv_istore_n (lv' := [(2, .int (iI 0)), (0, .ref a), (1, .int (iI (i : Int)))]) dJ3_charAt_4 rfl (by decide) rfl ?_
  refine jlv_aload_n dJ3_charAt_5 rfl 1 rfl ?_
  refine jr_get 0 rfl rfl 0 q218 (Or.inl rfl) rfl dJ3_charAt_6 ?_
  refine jlv_astore_n (lv' := [(3, .ref v), (2, .int (iI 0)), (0, .ref a), (1, .int (iI (i : Int)))]) dJ3_charAt_9 rfl (by decide) rfl ?_
  refine jlv_aload_n dJ3_charAt_10 rfl 2 rfl ?_
  refine jr_get 0 rfl rfl 3 q222 (Or.inl rfl) rfl dJ3_charAt_11 ?_
  refine jlv_aload_n dJ3_charAt_14 rfl 0 rfl ?_
  refine jr_alen 1 rfl (ty := .byte) rfl dJ3_charAt_15 (n := iI (cap : Int)) (by rw [show _ = _ from (show (lb cs ++ junk).length = cap by rw [sb_len]; exact hcap)]; rfl) ?_
  refine jlv_iload_n dJ3_charAt_16 rfl 1 rfl ?_
  refine jlv_ishr dJ3_charAt_17 ?_
  rw [iI_shr0]
  refine jr_mmin (cs.length : Int) (by omega) (by omega) (by omega) q2286 q362 q85 q363 (by decide) (Nat.le_of_ble_eq_true rfl) dJ3_charAt_18 ?_
  refine jlv_istore (lv' := [(4, .int (iI (cs.length : Int))), (3, .ref v), (2, .int (iI 0)), (0, .ref a), (1, .int (iI (i : Int)))]) dJ3_charAt_21 (by decide) rfl ?_
  refine jlv_iload_n dJ3_charAt_23 rfl 4 rfl ?_
  refine jlv_iload dJ3_charAt_24 0 rfl ?_
  refine jr_callS [.int (iI (i : Int)), .int (iI (cs.length : Int))] (sp_S_checkIndex l G i cs.length (hi) (by omega)) (rest := []) q2287 q1550 q81 oJ5_checkIndex pJ5_checkIndex (by decide) (by decide) (Nat.le_of_ble_eq_true rfl) [0, 1] [] rfl trivial (Φr := [ow a 1 [.ref v, .int (iI 0), .int (jB m), .int (iI (cs.length : Int))], oa v 0 (lb cs ++ junk)]) rfl (by first | omega | exact Nat.zero_le _) dJ3_charAt_26 (fun v9 Ψ hq => ?_) (fun _ _ hq => hq.elim)
  obtain ⟨rfl, rfl⟩ := hq
  show jT mJ3_charAt l G _ _ _ X [ow a 1 [.ref v, .int (iI 0), .int (jB m), .int (iI (cs.length : Int))], oa v 0 (lb cs ++ junk)] 29 [(4, .int (iI (cs.length : Int))), (3, .ref v), (2, .int (iI 0)), (0, .ref a), (1, .int (iI (i : Int)))] [] _
  refine jlv_iload_n dJ3_charAt_29 rfl 2 rfl ?_
  refine ji_if_ne 42 (by decide) dJ3_charAt_30 (by decide) (fun h_74 => absurd h_74 (by decide)) (fun h_74 => ?_)
  refine jlv_aload_n dJ3_charAt_33 rfl 1 rfl ?_
  refine jlv_iload_n dJ3_charAt_34 rfl 4 rfl ?_
  refine jr_bald 1 rfl (n := i) (iI_eqn (by omega) (by omega)) (v := .int (iI (sb c))) (by rw [List.getElem?_append_left (by rw [lb_len]; exact hi)]; exact lb_at hc) dJ3_charAt_35 ?_
  refine ji_sipush (by decide) dJ3_charAt_36 ?_
  refine jlv_iand dJ3_charAt_39 ?_
  rw [sb_and c hb1]
  refine ji_i2c (c : Int) (by omega) dJ3_charAt_40 ?_
  refine jt_pickP [0, 1] [] rfl trivial (Φ' := [ow a 1 [.ref v, .int (iI 0), .int (jB m), .int (iI (cs.length : Int))], oa v 0 (lb cs ++ junk)]) rfl ?_
  refine jt_fold (A := [ow a 1 [.ref v, .int (iI 0), .int (jB m), .int (iI (cs.length : Int))], oa v 0 (lb cs ++ junk)]) (P := SB a cap cs) (SB_fold hb hcap hmx hj rfl rfl) ?_
  show jT mJ3_charAt l G _ _ _ X [SB a cap cs] 41 [(4, .int (iI (cs.length : Int))), (3, .ref v), (2, .int (iI 0)), (0, .ref a), (1, .int (iI (i : Int)))] [.int (iI (c : Int))] _
  exact jr_zret dJ3_charAt_41 rfl (jn_char (by omega)) (Ψ := [SB a cap cs]) ⟨rfl, rfl⟩ (js_pickP [0] [] rfl trivial rfl)

abbrev mJ4_charAt : jM := (cJ4_charAt, RJ4, 2, (Option.some FieldType.char), "charAt", none)
theorem oJ4_charAt : jcode yJ4_charAt mJ4_charAt := q2282
theorem pJ4_charAt : jpar yJ4_charAt 1 := ⟨by decide +kernel, by decide +kernel, by decide +kernel⟩
theorem sp_SB_charAt (l : Launch) (G : jG) (a : Nat) (cap : Nat) (cs : List Nat) (i : Nat) (c : Nat) (hc : cs[i]? = some c) : jS l G yJ4_charAt mJ4_charAt 4 [.ref a, .int (iI (i : Int))] [SB a cap cs] (0) (jret (fun v9 Ψ => v9 = some (.int (iI (c : Int))) ∧ Ψ = [SB a cap cs])) := by
  refine jS_of (plainFor_of_name (by decide)) rfl rfl rfl (Nat.le_of_ble_eq_true rfl) (fun X => ?_)
  show jT mJ4_charAt l G _ _ _ X [SB a cap cs] 0 [(0, .ref a), (1, .int (iI (i : Int)))] [] _
  refine jt_pure 0 rfl SB_spec (fun hsp => ?_)
  show jT mJ4_charAt l G _ _ _ X [SB a cap cs] 0 [(0, .ref a), (1, .int (iI (i : Int)))] [] _
  have hb1 := hsp.1 c (l_mem hc)
  refine jlv_aload_n dJ4_charAt_0 rfl 0 rfl ?_
  refine jlv_iload_n dJ4_charAt_1 rfl 1 rfl ?_
  refine jt_cls 0 rfl SB_has ?_
  refine jr_callSup [.int (iI (i : Int))] (sp_ASB_charAt l G a cap cs i c (hc)) (rest := []) (by decide) rfl 0 rfl rfl q2283 q4316 q2284 q231 q79 oJ3_charAt pJ3_charAt (by decide) (by decide) (Nat.le_of_ble_eq_true rfl) [1, 0] [] rfl trivial (Φr := [im a 1 []]) rfl (by first | omega | exact Nat.zero_le _) dJ4_charAt_2 (fun v9 Ψ hq => ?_) (fun _ _ hq => hq.elim)
  obtain ⟨rfl, rfl⟩ := hq
  show jT mJ4_charAt l G _ _ _ X [SB a cap cs, im a 1 []] 5 [(0, .ref a), (1, .int (iI (i : Int)))] [.int (iI (c : Int))] _
  exact jr_zret dJ4_charAt_5 rfl (jn_char (by omega)) (Ψ := [SB a cap cs]) ⟨rfl, rfl⟩ (js_pickP [0] [] rfl trivial rfl)

abbrev mJ9_rangeCheck : jM := (cJ9_rangeCheck, RJ9, 3, (Option.none : Option FieldType), "rangeCheck", none)
theorem oJ9_rangeCheck : jcode yJ9_rangeCheck mJ9_rangeCheck := q869
theorem pJ9_rangeCheck : jpar yJ9_rangeCheck 3 := ⟨by decide +kernel, by decide +kernel, by decide +kernel⟩
theorem sp_rangeCheck (l : Launch) (G : jG) (n : Nat) (x : Nat) (y : Nat) (h1 : x ≤ y) (h2 : y ≤ n) (h3 : n ≤ 2147483647) : jS l G yJ9_rangeCheck mJ9_rangeCheck 1 [.int (iI (n : Int)), .int (iI (x : Int)), .int (iI (y : Int))] [] (0) (jret (fun v9 Ψ => v9 = none ∧ Ψ = [])) := by
  refine jS_of (plainFor_of_name (by decide)) rfl rfl rfl (Nat.le_of_ble_eq_true rfl) (fun X => ?_)
  show jT mJ9_rangeCheck l G _ _ _ X [] 0 [(0, .int (iI (n : Int))), (1, .int (iI (x : Int))), (2, .int (iI (y : Int)))] [] _
  refine jlv_iload_n dJ9_rangeCheck_0 rfl 1 rfl ?_
  refine jlv_iload_n dJ9_rangeCheck_1 rfl 2 rfl ?_
  refine ji_icmp_le 46 (by omega) (by omega) dJ9_rangeCheck_2 (by decide) (fun h_75 => ?_) (fun h_75 => absurd h_75 (by omega))
  refine jlv_iload_n dJ9_rangeCheck_46 rfl 1 rfl ?_
  refine ji_if_ge 59 (by omega) dJ9_rangeCheck_47 (by decide) (fun h_76 => ?_) (fun h_76 => absurd h_76 (by omega))
  refine jlv_iload_n dJ9_rangeCheck_59 rfl 2 rfl ?_
  refine jlv_iload_n dJ9_rangeCheck_60 rfl 0 rfl ?_
  refine ji_icmp_le 73 (by omega) (by omega) dJ9_rangeCheck_61 (by decide) (fun h_77 => ?_) (fun h_77 => absurd h_77 (by omega))
  exact jr_vret dJ9_rangeCheck_73 rfl (Ψ := []) ⟨rfl, rfl⟩ (js_pickP [] [] rfl trivial rfl)

abbrev mJ3_setLength : jM := (cJ3_setLength, RJ3, 2, (Option.none : Option FieldType), "setLength", none)
theorem oJ3_setLength : jcode yJ3_setLength mJ3_setLength := q841
theorem pJ3_setLength : jpar yJ3_setLength 1 := ⟨by decide +kernel, by decide +kernel, by decide +kernel⟩
theorem sp_ASB_setLength0 (l : Launch) (G : jG) (a : Nat) (cap : Nat) (cs : List Nat) (hcap0 : cap ≤ 300000) : jS l G yJ3_setLength mJ3_setLength 4 [.ref a, .int (iI 0)] [SB a cap cs] (0) (jret (fun v9 Ψ => v9 = none ∧ Ψ = [SB a cap []])) := by
  refine jS_of (plainFor_of_name (by decide)) rfl rfl rfl (Nat.le_of_ble_eq_true rfl) (fun X => ?_)
  show jT mJ3_setLength l G _ _ _ X [SB a cap cs] 0 [(0, .ref a), (1, .int (iI 0))] [] _
  refine jlv_iload_n dJ3_setLength_0 rfl 1 rfl ?_
  refine ji_if_ge 13 (by decide) dJ3_setLength_1 (by decide) (fun h_78 => ?_) (fun h_78 => absurd h_78 (by decide))
  refine jlv_aload_n dJ3_setLength_13 rfl 0 rfl ?_
  refine jlv_iload_n dJ3_setLength_14 rfl 1 rfl ?_
  refine jt_eq (st' := [.int (iI 0), .ref a]) (lv' := [(0, .ref a), (1, .int (iI 0))]) (by first | rfl | rw [show 0 = 0 by omega]) rfl ?_
  refine jt_cls 0 rfl SB_has ?_
  refine jr_callU (x := ⟨"java/lang/AbstractStringBuilder", "ensureCapacityInternal", "(I)V"⟩) (owner := "java/lang/AbstractStringBuilder") [.int (iI 0)] (sp_ASB_ensure l G a cap cs 0 (by omega) (hcap0)) (rest := []) rfl 0 rfl rfl rfl q466 q4290 q468 (lw_g (lw_at lw_mx 1 rfl) rfl) q79 oJ3_ensureCapacityInternal pJ3_ensureCapacityInternal (by decide) (by decide) (Nat.le_of_ble_eq_true rfl) [1, 0] [] rfl trivial (Φr := [im a 1 []]) rfl (by first | omega | exact Nat.zero_le _) dJ3_setLength_15 (fun v9 Ψ hq => ?_) (fun _ _ hq => hq.elim)
  obtain ⟨rfl, rfl⟩ := hq
  show jT mJ3_setLength l G _ _ _ X [SB a (sbCap cap 0) cs, im a 1 []] 18 [(0, .ref a), (1, .int (iI 0))] [] _
  refine jt_same 0 (P := SB a (sbCap cap 0) cs) (P' := SB a cap cs) rfl (by rw [show sbCap cap 0 = cap from by unfold sbCap; rw [if_pos (Nat.zero_le _)]]) (Φ' := [SB a cap cs, im a 1 []]) rfl ?_
  refine jt_open ?_
  rintro ⟨m, v, junk⟩ ⟨hb, hcap, hmx, hj⟩
  try dsimp only at hb hcap hmx hj
  show jT mJ3_setLength l G _ _ _ X [ow a 1 [.ref v, .int (iI 0), .int (jB m), .int (iI (cs.length : Int))], oa v 0 (lb cs ++ junk), im a 1 []] 18 [(0, .ref a), (1, .int (iI 0))] [] _
  refine jlv_aload_n dJ3_setLength_18 rfl 0 rfl ?_
  refine jr_get 0 rfl rfl 3 q222 (Or.inl rfl) rfl dJ3_setLength_19 ?_
  refine jlv_iload_n dJ3_setLength_22 rfl 1 rfl ?_
  refine ji_icmp_ge 63 (by omega) (by omega) dJ3_setLength_23 (by decide) (fun h_79 => ?_) (fun h_79 => ?_)
  · skip
    refine jlv_aload_n dJ3_setLength_63 rfl 0 rfl ?_
    refine jr_get 0 rfl rfl 3 q222 (Or.inl rfl) rfl dJ3_setLength_64 ?_
    refine jlv_iload_n dJ3_setLength_67 rfl 1 rfl ?_
    refine ji_icmp_le 76 (by omega) (by omega) dJ3_setLength_68 (by decide) (fun h_80 => ?_) (fun h_80 => ?_)
    · skip
      refine jlv_aload_n dJ3_setLength_76 rfl 0 rfl ?_
      refine jlv_iload_n dJ3_setLength_77 rfl 1 rfl ?_
      refine jr_put 0 rfl rfl 3 q222 (Or.inl rfl) rfl rfl rfl rfl rfl dJ3_setLength_78 (Φ' := [ow a 1 [.ref v, .int (iI 0), .int (jB m), .int (iI 0)], oa v 0 (lb cs ++ junk), im a 1 []]) rfl ?_
      refine jt_pickP [0, 1, 2] [] rfl trivial (Φ' := [ow a 1 [.ref v, .int (iI 0), .int (jB m), .int (iI 0)], oa v 0 (lb cs ++ junk), im a 1 []]) rfl ?_
      refine jt_fold (A := [ow a 1 [.ref v, .int (iI 0), .int (jB m), .int (iI 0)], oa v 0 (lb cs ++ junk)]) (P := SB a cap []) (SB_fold (fun c hc => by cases hc) (junk := lb cs ++ junk) (by rw [sb_len]; simpa using hcap) hmx (jfit_app (jfit_lb hb) hj) rfl rfl) ?_
      show jT mJ3_setLength l G _ _ _ X [SB a cap [], im a 1 []] 81 [(0, .ref a), (1, .int (iI 0))] [] _
      exact jr_vret dJ3_setLength_81 rfl (Ψ := [SB a cap []]) ⟨rfl, rfl⟩ (js_pickP [0] [] rfl trivial rfl)
    · skip
      refine jlv_aload_n dJ3_setLength_71 rfl 0 rfl ?_
      refine jlv_iconst (v := iI 1) dJ3_setLength_72 rfl ?_
      refine jr_put 0 rfl rfl 2 q220 (Or.inl rfl) rfl rfl rfl rfl rfl dJ3_setLength_73 (Φ' := [ow a 1 [.ref v, .int (iI 0), .int (iI 1), .int (iI (cs.length : Int))], oa v 0 (lb cs ++ junk), im a 1 []]) rfl ?_
      refine jlv_aload_n dJ3_setLength_76 rfl 0 rfl ?_
      refine jlv_iload_n dJ3_setLength_77 rfl 1 rfl ?_
      refine jr_put 0 rfl rfl 3 q222 (Or.inl rfl) rfl rfl rfl rfl rfl dJ3_setLength_78 (Φ' := [ow a 1 [.ref v, .int (iI 0), .int (iI 1), .int (iI 0)], oa v 0 (lb cs ++ junk), im a 1 []]) rfl ?_
      refine jt_pickP [0, 1, 2] [] rfl trivial (Φ' := [ow a 1 [.ref v, .int (iI 0), .int (iI 1), .int (iI 0)], oa v 0 (lb cs ++ junk), im a 1 []]) rfl ?_
      refine jt_fold (A := [ow a 1 [.ref v, .int (iI 0), .int (iI 1), .int (iI 0)], oa v 0 (lb cs ++ junk)]) (P := SB a cap []) (SB_fold (m := true) (fun c hc => by cases hc) (junk := lb cs ++ junk) (by rw [sb_len]; simpa using hcap) hmx (jfit_app (jfit_lb hb) hj) rfl rfl) ?_
      show jT mJ3_setLength l G _ _ _ X [SB a cap [], im a 1 []] 81 [(0, .ref a), (1, .int (iI 0))] [] _
      exact jr_vret dJ3_setLength_81 rfl (Ψ := [SB a cap []]) ⟨rfl, rfl⟩ (js_pickP [0] [] rfl trivial rfl)
  · skip
    exact absurd h_79 (by omega)

abbrev mJ4_setLength : jM := (cJ4_setLength, RJ4, 2, (Option.none : Option FieldType), "setLength", none)
theorem oJ4_setLength : jcode yJ4_setLength mJ4_setLength := q838
theorem pJ4_setLength : jpar yJ4_setLength 1 := ⟨by decide +kernel, by decide +kernel, by decide +kernel⟩
theorem sp_SB_setLength0 (l : Launch) (G : jG) (a : Nat) (cap : Nat) (cs : List Nat) (hcap0 : cap ≤ 300000) : jS l G yJ4_setLength mJ4_setLength 5 [.ref a, .int (iI 0)] [SB a cap cs] (0) (jret (fun v9 Ψ => v9 = none ∧ Ψ = [SB a cap []])) := by
  refine jS_of (plainFor_of_name (by decide)) rfl rfl rfl (Nat.le_of_ble_eq_true rfl) (fun X => ?_)
  show jT mJ4_setLength l G _ _ _ X [SB a cap cs] 0 [(0, .ref a), (1, .int (iI 0))] [] _
  refine jlv_aload_n dJ4_setLength_0 rfl 0 rfl ?_
  refine jlv_iload_n dJ4_setLength_1 rfl 1 rfl ?_
  refine jt_cls 0 rfl SB_has ?_
  refine jr_callSup [.int (iI 0)] (sp_ASB_setLength0 l G a cap cs (hcap0)) (rest := []) (by decide) rfl 0 rfl rfl q839 q4299 q840 q231 q79 oJ3_setLength pJ3_setLength (by decide) (by decide) (Nat.le_of_ble_eq_true rfl) [1, 0] [] rfl trivial (Φr := [im a 1 []]) rfl (by first | omega | exact Nat.zero_le _) dJ4_setLength_2 (fun v9 Ψ hq => ?_) (fun _ _ hq => hq.elim)
  obtain ⟨rfl, rfl⟩ := hq
  show jT mJ4_setLength l G _ _ _ X [SB a cap [], im a 1 []] 5 [(0, .ref a), (1, .int (iI 0))] [] _
  exact jr_vret dJ4_setLength_5 rfl (Ψ := [SB a cap []]) ⟨rfl, rfl⟩ (js_pickP [0] [] rfl trivial rfl)

abbrev mJ3_inflateIfNeededFor_2 : jM := (cJ3_inflateIfNeededFor_2, RJ3, 2, (Option.none : Option FieldType), "inflateIfNeededFor", none)
theorem oJ3_inflateIfNeededFor_2 : jcode yJ3_inflateIfNeededFor_2 mJ3_inflateIfNeededFor_2 := q2550
theorem pJ3_inflateIfNeededFor_2 : jpar yJ3_inflateIfNeededFor_2 1 := ⟨by decide +kernel, by decide +kernel, by decide +kernel⟩
theorem sp_ASB_inflIfB (l : Launch) (G : jG) (a : Nat) (v : Nat) (m : Bool) (z : Int32) (b : Nat) (cap2 : Nat) (ds : List Nat) : jS l G yJ3_inflateIfNeededFor_2 mJ3_inflateIfNeededFor_2 2 [.ref a, .ref b] [ow a 1 [.ref v, .int (iI 0), .int (jB m), .int z], SB b cap2 ds] (0) (jret (fun v9 Ψ => v9 = none ∧ Ψ = [ow a 1 [.ref v, .int (iI 0), .int (jB m), .int z], SB b cap2 ds])) := by
  refine jS_of (plainFor_of_name (by decide)) rfl rfl rfl (Nat.le_of_ble_eq_true rfl) (fun X => ?_)
  show jT mJ3_inflateIfNeededFor_2 l G _ _ _ X [ow a 1 [.ref v, .int (iI 0), .int (jB m), .int z], SB b cap2 ds] 0 [(0, .ref a), (1, .ref b)] [] _
  refine jr_g0 (fun hg0 => ?_)
  obtain ⟨gi, ⟨gea, hgea, hgea2⟩, ⟨gem, hgem, hgem2⟩, ⟨gpr, hgpr, hgpr2⟩, ⟨gic, gicad, hgic, hgic2, hgic3⟩, ⟨gcc, gccad, hgcc, hgcc2, hgcc3⟩, grf, gks⟩ := hg0
  refine jr_getsV 3 rfl q209 (v := .int (iI 1)) (gi (3, 1) (List.mem_of_getElem? (i := 0) rfl)) dJ3_inflateIfNeededFor_2_0 ?_
  refine ji_if_eq 21 (by decide) dJ3_inflateIfNeededFor_2_3 (by decide) (fun h_81 => absurd h_81 (by decide)) (fun h_81 => ?_)
  refine jlv_aload_n dJ3_inflateIfNeededFor_2_6 rfl 0 rfl ?_
  refine jr_get 0 rfl rfl 1 q219 (Or.inl rfl) rfl dJ3_inflateIfNeededFor_2_7 ?_
  refine jlv_aload_n dJ3_inflateIfNeededFor_2_10 rfl 1 rfl ?_
  refine jt_cls 1 rfl SB_has ?_
  refine jr_callU (x := ⟨"java/lang/AbstractStringBuilder", "getCoder", "()B"⟩) (owner := "java/lang/AbstractStringBuilder") [] (sp_ASB_getCoder l G b cap2 ds) (rest := [.int (iI 0)]) rfl 0 rfl rfl rfl q2551 q2553 q2552 q2554 q79 oJ3_getCoder pJ3_getCoder (by decide) (by decide) (Nat.le_of_ble_eq_true rfl) [2, 0, 1] [] rfl trivial (Φr := [im b 1 [], ow a 1 [.ref v, .int (iI 0), .int (jB m), .int z]]) rfl (by first | omega | exact Nat.zero_le _) dJ3_inflateIfNeededFor_2_11 (fun v9 Ψ hq => ?_) (fun _ _ hq => hq.elim)
  obtain ⟨rfl, rfl⟩ := hq
  show jT mJ3_inflateIfNeededFor_2 l G _ _ _ X [SB b cap2 ds, im b 1 [], ow a 1 [.ref v, .int (iI 0), .int (jB m), .int z]] 14 [(0, .ref a), (1, .ref b)] [.int (iI 0), .int (iI 0)] _
  refine ji_icmp_eq 21 (by decide) (by decide) dJ3_inflateIfNeededFor_2_14 (by decide) (fun h_82 => ?_) (fun h_82 => absurd h_82 (by decide))
  exact jr_vret dJ3_inflateIfNeededFor_2_21 rfl (Ψ := [ow a 1 [.ref v, .int (iI 0), .int (jB m), .int z], SB b cap2 ds]) ⟨rfl, rfl⟩ (js_pickP [2, 0] [] rfl trivial rfl)

abbrev mJ3_getBytes : jM := (cJ3_getBytes, RJ3, 4, (Option.none : Option FieldType), "getBytes", none)
theorem oJ3_getBytes : jcode yJ3_getBytes mJ3_getBytes := q2560
theorem pJ3_getBytes : jpar yJ3_getBytes 3 := ⟨by decide +kernel, by decide +kernel, by decide +kernel⟩
theorem sp_ASB_getBytes (l : Launch) (G : jG) (b : Nat) (cap2 : Nat) (ds : List Nat) (v : Nat) (cs : List Nat) (junk : List Value) (hd : ds.length ≤ junk.length) (hm : cs.length + junk.length ≤ 2000000) : jS l G yJ3_getBytes mJ3_getBytes 2 [.ref b, .ref v, .int (iI (cs.length : Int)), .int (iI 0)] [SB b cap2 ds, oa v 0 (lb cs ++ junk)] (0) (jret (fun v9 Ψ => v9 = none ∧ Ψ = [SB b cap2 ds, oa v 0 (lb (cs ++ ds) ++ junk.drop ds.length)])) := by
  refine jS_of (plainFor_of_name (by decide)) rfl rfl rfl (Nat.le_of_ble_eq_true rfl) (fun X => ?_)
  show jT mJ3_getBytes l G _ _ _ X [SB b cap2 ds, oa v 0 (lb cs ++ junk)] 0 [(0, .ref b), (1, .ref v), (2, .int (iI (cs.length : Int))), (3, .int (iI 0))] [] _
  refine jt_open ?_
  rintro ⟨m2, v2, junk2⟩ ⟨hb2, hcap2, hmx2, hj2⟩
  try dsimp only at hb2 hcap2 hmx2 hj2
  show jT mJ3_getBytes l G _ _ _ X [ow b 1 [.ref v2, .int (iI 0), .int (jB m2), .int (iI (ds.length : Int))], oa v2 0 (lb ds ++ junk2), oa v 0 (lb cs ++ junk)] 0 [(0, .ref b), (1, .ref v), (2, .int (iI (cs.length : Int))), (3, .int (iI 0))] [] _
  refine jlv_aload_n dJ3_getBytes_0 rfl 0 rfl ?_
  refine jr_get 0 rfl rfl 1 q219 (Or.inl rfl) rfl dJ3_getBytes_1 ?_
  refine jlv_iload_n dJ3_getBytes_4 rfl 3 rfl ?_
  refine ji_icmp_ne 29 (by decide) (by decide) dJ3_getBytes_5 (by decide) (fun h_83 => absurd h_83 (by decide)) (fun h_83 => ?_)
  refine jlv_aload_n dJ3_getBytes_8 rfl 0 rfl ?_
  refine jr_get 0 rfl rfl 0 q218 (Or.inl rfl) rfl dJ3_getBytes_9 ?_
  refine jlv_iconst (v := iI 0) dJ3_getBytes_12 rfl ?_
  refine jlv_aload_n dJ3_getBytes_13 rfl 1 rfl ?_
  refine jlv_iload_n dJ3_getBytes_14 rfl 2 rfl ?_
  refine jlv_iload_n dJ3_getBytes_15 rfl 3 rfl ?_
  refine jlv_ishl dJ3_getBytes_16 ?_
  rw [iI_shl0]
  refine jlv_aload_n dJ3_getBytes_17 rfl 0 rfl ?_
  refine jr_get 0 rfl rfl 3 q222 (Or.inl rfl) rfl dJ3_getBytes_18 ?_
  refine jlv_iload_n dJ3_getBytes_21 rfl 3 rfl ?_
  refine jlv_ishl dJ3_getBytes_22 ?_
  rw [iI_shl0]
  refine jr_copyb q2561 q366 q365 q88 (by decide) 1 2 rfl rfl (vs := (lb ds ++ junk2)) (ws := (lb cs ++ junk)) (sp := 0) (dp := cs.length) (n := ds.length) (by decide) (iI_eqn (by omega) (by omega)) (iI_eqn (by omega) (by omega)) (by first | omega | (simp only [List.length_append, lb_len]; omega)) (by first | omega | (simp only [List.length_append, lb_len]; omega)) (fun q hq => jfit_at (jfit_app (jfit_lb hb2) hj2) (by rw [sb_len]; omega)) (Nat.le_of_ble_eq_true rfl) dJ3_getBytes_23 (Φ' := [ow b 1 [.ref v2, .int (iI 0), .int (jB m2), .int (iI (ds.length : Int))], oa v2 0 (lb ds ++ junk2), oa v 0 (lb (cs ++ ds) ++ junk.drop ds.length)]) (by rw [sb_appd2 hd]; rfl) ?_
  refine jlv_goto (tgt := 43) dJ3_getBytes_26 (by decide) ?_
  refine jt_pickP [0, 1, 2] [] rfl trivial (Φ' := [ow b 1 [.ref v2, .int (iI 0), .int (jB m2), .int (iI (ds.length : Int))], oa v2 0 (lb ds ++ junk2), oa v 0 (lb (cs ++ ds) ++ junk.drop ds.length)]) rfl ?_
  refine jt_fold (A := [ow b 1 [.ref v2, .int (iI 0), .int (jB m2), .int (iI (ds.length : Int))], oa v2 0 (lb ds ++ junk2)]) (P := SB b cap2 ds) (SB_fold hb2 hcap2 hmx2 hj2 rfl rfl) ?_
  show jT mJ3_getBytes l G _ _ _ X [SB b cap2 ds, oa v 0 (lb (cs ++ ds) ++ junk.drop ds.length)] 43 [(0, .ref b), (1, .ref v), (2, .int (iI (cs.length : Int))), (3, .int (iI 0))] [] _
  exact jr_vret dJ3_getBytes_43 rfl (Ψ := [SB b cap2 ds, oa v 0 (lb (cs ++ ds) ++ junk.drop ds.length)]) ⟨rfl, rfl⟩ (js_pickP [0, 1] [] rfl trivial rfl)

abbrev mJ3_append_5 : jM := (cJ3_append_5, RJ3, 3, (Option.some (FieldType.object "java/lang/AbstractStringBuilder")), "append", none)
theorem oJ3_append_5 : jcode yJ3_append_5 mJ3_append_5 := q2545
theorem pJ3_append_5 : jpar yJ3_append_5 1 := ⟨by decide +kernel, by decide +kernel, by decide +kernel⟩
theorem sp_ASB_appendB (l : Launch) (G : jG) (a : Nat) (cap : Nat) (cs : List Nat) (b : Nat) (cap2 : Nat) (ds : List Nat) (hcap0 : cap ≤ 150000) (hds : ds.length ≤ 100000) : jS l G yJ3_append_5 mJ3_append_5 4 [.ref a, .ref b] [SB a cap cs, SB b cap2 ds] (sbC cap (cs.length + ds.length)) (jret (fun v9 Ψ => v9 = some (.ref a) ∧ Ψ = [SB a (sbCap cap (cs.length + ds.length)) (cs ++ ds), SB b cap2 ds])) := by
  refine jS_of (plainFor_of_name (by decide)) rfl rfl rfl (Nat.le_of_ble_eq_true rfl) (fun X => ?_)
  show jT mJ3_append_5 l G _ _ _ X [SB a cap cs, SB b cap2 ds] 0 [(0, .ref a), (1, .ref b)] [] _
  refine jt_pure 0 rfl SB_spec (fun hsp => ?_)
  show jT mJ3_append_5 l G _ _ _ X [SB a cap cs, SB b cap2 ds] 0 [(0, .ref a), (1, .ref b)] [] _
  have hcl := hsp.2.1
  refine jt_pure 1 rfl SB_spec (fun hsp2 => ?_)
  show jT mJ3_append_5 l G _ _ _ X [SB a cap cs, SB b cap2 ds] 0 [(0, .ref a), (1, .ref b)] [] _
  refine jlv_aload_n dJ3_append_5_0 rfl 1 rfl ?_
  refine jlv_ifnonnull (tgt := 9) dJ3_append_5_1 (by decide) ?_
  refine jlv_aload_n dJ3_append_5_9 rfl 1 rfl ?_
  refine jt_cls 1 rfl SB_has ?_
  refine jr_callO (x := ⟨"java/lang/AbstractStringBuilder", "length", "()I"⟩) (owner := "java/lang/AbstractStringBuilder") [] (sp_SB_length l G b cap2 ds) (rest := []) rfl 0 rfl rfl q605 q611 q2546 q606 q608 q607 q80 oJ4_length ⟨by decide +kernel, by decide +kernel, by decide +kernel⟩ (by decide) (by decide) (Nat.le_of_ble_eq_true rfl) [2, 0, 1] [] rfl trivial (Φr := [im b 1 [], SB a cap cs]) rfl (by first | omega | exact Nat.zero_le _) dJ3_append_5_10 (fun v9 Ψ hq => ?_) (fun _ _ hq => hq.elim)
  obtain ⟨rfl, rfl⟩ := hq
  show jT mJ3_append_5 l G _ _ _ X [SB b cap2 ds, im b 1 [], SB a cap cs] 13 [(0, .ref a), (1, .ref b)] [.int (iI (ds.length : Int))] _
  refine jlv_istore_n (lv' := [(2, .int (iI (ds.length : Int))), (0, .ref a), (1, .ref b)]) dJ3_append_5_13 rfl (by decide) rfl ?_
  refine jlv_aload_n dJ3_append_5_14 rfl 1 rfl ?_
  refine jt_pickP [2, 0, 1] [] rfl trivial (Φ' := [SB a cap cs, SB b cap2 ds, im b 1 []]) rfl ?_
  refine jt_open ?_
  rintro ⟨m, v, junk⟩ ⟨hb, hcap, hmx, hj⟩
  try dsimp only at hb hcap hmx hj
  show jT mJ3_append_5 l G _ _ _ X [ow a 1 [.ref v, .int (iI 0), .int (jB m), .int (iI (cs.length : Int))], oa v 0 (lb cs ++ junk), SB b cap2 ds, im b 1 []] 15 [(2, .int (iI (ds.length : Int))), (0, .ref a), (1, .ref b)] [.ref a] _
  refine jlv_aload_n dJ3_append_5_15 rfl 1 rfl ?_
  refine jr_get 0 rfl rfl 3 q222 (Or.inl rfl) rfl dJ3_append_5_16 ?_
  refine jlv_iload_n dJ3_append_5_19 rfl 0 rfl ?_
  refine ji_iadd ((cs.length : Int) + (ds.length : Int)) (by omega) dJ3_append_5_20 ?_
  refine jt_pickP [0, 1, 2, 3] [] rfl trivial (Φ' := [ow a 1 [.ref v, .int (iI 0), .int (jB m), .int (iI (cs.length : Int))], oa v 0 (lb cs ++ junk), SB b cap2 ds, im b 1 []]) rfl ?_
  refine jt_fold (A := [ow a 1 [.ref v, .int (iI 0), .int (jB m), .int (iI (cs.length : Int))], oa v 0 (lb cs ++ junk)]) (P := SB a cap cs) (SB_fold hb hcap hmx hj rfl rfl) ?_
  show jT mJ3_append_5 l G _ _ _ X [SB a cap cs, SB b cap2 ds, im b 1 []] 21 [(2, .int (iI (ds.length : Int))), (0, .ref a), (1, .ref b)] [.int (iI ((cs.length : Int) + (ds.length : Int))), .ref a] _
  refine jt_cls 0 rfl SB_has ?_
  refine jr_callU (x := ⟨"java/lang/AbstractStringBuilder", "ensureCapacityInternal", "(I)V"⟩) (owner := "java/lang/AbstractStringBuilder") [.int (iI ((cs.length : Int) + (ds.length : Int)))] (sp_ASB_ensure l G a cap cs (cs.length + ds.length) (by omega) (by omega)) (rest := []) rfl 0 rfl rfl rfl q466 q4290 q468 (lw_g (lw_at lw_mx 1 rfl) rfl) q79 oJ3_ensureCapacityInternal pJ3_ensureCapacityInternal (by decide) (by decide) (Nat.le_of_ble_eq_true rfl) [1, 0, 2, 3] [] rfl trivial (Φr := [im a 1 [], SB b cap2 ds, im b 1 []]) rfl (by first | omega | exact Nat.zero_le _) dJ3_append_5_21 (fun v9 Ψ hq => ?_) (fun _ _ hq => hq.elim)
  obtain ⟨rfl, rfl⟩ := hq
  show jT mJ3_append_5 l G _ _ _ X [SB a (sbCap cap (cs.length + ds.length)) cs, im a 1 [], SB b cap2 ds, im b 1 []] 24 [(2, .int (iI (ds.length : Int))), (0, .ref a), (1, .ref b)] [] _
  have hge := sbCap_ge cap (cs.length + ds.length)
  refine jt_open ?_
  rintro ⟨m3, v3, junk3⟩ ⟨hb3, hcap3, hmx3, hj3⟩
  try dsimp only at hb3 hcap3 hmx3 hj3
  show jT mJ3_append_5 l G _ _ _ X [ow a 1 [.ref v3, .int (iI 0), .int (jB m3), .int (iI (cs.length : Int))], oa v3 0 (lb cs ++ junk3), im a 1 [], SB b cap2 ds, im b 1 []] 24 [(2, .int (iI (ds.length : Int))), (0, .ref a), (1, .ref b)] [] _
  refine jlv_aload_n dJ3_append_5_24 rfl 1 rfl ?_
  refine jlv_aload_n dJ3_append_5_25 rfl 2 rfl ?_
  refine jr_callU (x := ⟨"java/lang/AbstractStringBuilder", "inflateIfNeededFor", "(Ljava/lang/AbstractStringBuilder;)V"⟩) (owner := "java/lang/AbstractStringBuilder") [.ref b] (sp_ASB_inflIfB l G a v3 m3 (iI (cs.length : Int)) b cap2 ds) (rest := []) rfl 0 rfl rfl rfl q2547 q4323 q2549 (lw_g (lw_at lw_mx 6 rfl) rfl) q79 oJ3_inflateIfNeededFor_2 pJ3_inflateIfNeededFor_2 (by decide) (by decide) (Nat.le_of_ble_eq_true rfl) [0, 3, 1, 2, 4] [] rfl trivial (Φr := [oa v3 0 (lb cs ++ junk3), im a 1 [], im b 1 []]) rfl (by first | omega | exact Nat.zero_le _) dJ3_append_5_26 (fun v9 Ψ hq => ?_) (fun _ _ hq => hq.elim)
  obtain ⟨rfl, rfl⟩ := hq
  show jT mJ3_append_5 l G _ _ _ X [ow a 1 [.ref v3, .int (iI 0), .int (jB m3), .int (iI (cs.length : Int))], SB b cap2 ds, oa v3 0 (lb cs ++ junk3), im a 1 [], im b 1 []] 29 [(2, .int (iI (ds.length : Int))), (0, .ref a), (1, .ref b)] [] _
  refine jlv_aload_n dJ3_append_5_29 rfl 2 rfl ?_
  refine jlv_aload_n dJ3_append_5_30 rfl 1 rfl ?_
  refine jr_get 0 rfl rfl 0 q218 (Or.inl rfl) rfl dJ3_append_5_31 ?_
  refine jlv_aload_n dJ3_append_5_34 rfl 1 rfl ?_
  refine jr_get 0 rfl rfl 3 q222 (Or.inl rfl) rfl dJ3_append_5_35 ?_
  refine jlv_aload_n dJ3_append_5_38 rfl 1 rfl ?_
  refine jr_get 0 rfl rfl 1 q219 (Or.inl rfl) rfl dJ3_append_5_39 ?_
  refine jr_callU (x := ⟨"java/lang/AbstractStringBuilder", "getBytes", "([BIB)V"⟩) (owner := "java/lang/AbstractStringBuilder") [.ref v3, .int (iI (cs.length : Int)), .int (iI 0)] (sp_ASB_getBytes l G b cap2 ds v3 cs junk3 (by omega) (by omega)) (rest := []) rfl 4 rfl rfl rfl q2556 q2558 q2557 q2559 q79 oJ3_getBytes pJ3_getBytes (by decide) (by decide) (Nat.le_of_ble_eq_true rfl) [1, 2, 0, 3, 4] [] rfl trivial (Φr := [ow a 1 [.ref v3, .int (iI 0), .int (jB m3), .int (iI (cs.length : Int))], im a 1 [], im b 1 []]) rfl (by first | omega | exact Nat.zero_le _) dJ3_append_5_42 (fun v9 Ψ hq => ?_) (fun _ _ hq => hq.elim)
  obtain ⟨rfl, rfl⟩ := hq
  show jT mJ3_append_5 l G _ _ _ X [SB b cap2 ds, oa v3 0 (lb (cs ++ ds) ++ junk3.drop ds.length), ow a 1 [.ref v3, .int (iI 0), .int (jB m3), .int (iI (cs.length : Int))], im a 1 [], im b 1 []] 45 [(2, .int (iI (ds.length : Int))), (0, .ref a), (1, .ref b)] [] _
  refine jlv_aload_n dJ3_append_5_45 rfl 1 rfl ?_
  refine jlv_dup dJ3_append_5_46 rfl ?_
  refine jr_get 2 rfl rfl 3 q222 (Or.inl rfl) rfl dJ3_append_5_47 ?_
  refine jlv_iload_n dJ3_append_5_50 rfl 0 rfl ?_
  refine ji_iadd ((cs.length : Int) + (ds.length : Int)) (by omega) dJ3_append_5_51 ?_
  refine jr_put 2 rfl rfl 3 q222 (Or.inl rfl) rfl rfl rfl rfl rfl dJ3_append_5_52 (Φ' := [SB b cap2 ds, oa v3 0 (lb (cs ++ ds) ++ junk3.drop ds.length), ow a 1 [.ref v3, .int (iI 0), .int (jB m3), .int (iI ((cs.length : Int) + (ds.length : Int)))], im a 1 [], im b 1 []]) rfl ?_
  refine jt_open ?_
  rintro ⟨m4, v4, junk4⟩ ⟨hb4, hcap4, hmx4, hj4⟩
  try dsimp only at hb4 hcap4 hmx4 hj4
  show jT mJ3_append_5 l G _ _ _ X [ow b 1 [.ref v4, .int (iI 0), .int (jB m4), .int (iI (ds.length : Int))], oa v4 0 (lb ds ++ junk4), oa v3 0 (lb (cs ++ ds) ++ junk3.drop ds.length), ow a 1 [.ref v3, .int (iI 0), .int (jB m3), .int (iI ((cs.length : Int) + (ds.length : Int)))], im a 1 [], im b 1 []] 55 [(2, .int (iI (ds.length : Int))), (0, .ref a), (1, .ref b)] [] _
  refine jlv_aload_n dJ3_append_5_55 rfl 1 rfl ?_
  refine jlv_dup dJ3_append_5_56 rfl ?_
  refine jr_get 3 rfl rfl 2 q220 (Or.inl rfl) rfl dJ3_append_5_57 ?_
  refine jlv_aload_n dJ3_append_5_60 rfl 2 rfl ?_
  refine jr_get 0 rfl rfl 2 q220 (Or.inl rfl) rfl dJ3_append_5_61 ?_
  refine jlv_ior dJ3_append_5_64 ?_
  rw [jB_or]
  show jT mJ3_append_5 l G _ _ _ X [ow b 1 [.ref v4, .int (iI 0), .int (jB m4), .int (iI (ds.length : Int))], oa v4 0 (lb ds ++ junk4), oa v3 0 (lb (cs ++ ds) ++ junk3.drop ds.length), ow a 1 [.ref v3, .int (iI 0), .int (jB m3), .int (iI ((cs.length : Int) + (ds.length : Int)))], im a 1 [], im b 1 []] 65 [(2, .int (iI (ds.length : Int))), (0, .ref a), (1, .ref b)] [.int (jB (m3 || m4)), .ref a] _
  refine jr_put 3 rfl rfl 2 q220 (Or.inl rfl) rfl rfl (jB_nar _) (jB_fits _) rfl dJ3_append_5_65 (Φ' := [ow b 1 [.ref v4, .int (iI 0), .int (jB m4), .int (iI (ds.length : Int))], oa v4 0 (lb ds ++ junk4), oa v3 0 (lb (cs ++ ds) ++ junk3.drop ds.length), ow a 1 [.ref v3, .int (iI 0), .int (jB (m3 || m4)), .int (iI ((cs.length : Int) + (ds.length : Int)))], im a 1 [], im b 1 []]) rfl ?_
  refine jlv_aload_n dJ3_append_5_68 rfl 1 rfl ?_
  refine jt_pickP [0, 1, 2, 3, 4, 5] [] rfl trivial (Φ' := [ow b 1 [.ref v4, .int (iI 0), .int (jB m4), .int (iI (ds.length : Int))], oa v4 0 (lb ds ++ junk4), oa v3 0 (lb (cs ++ ds) ++ junk3.drop ds.length), ow a 1 [.ref v3, .int (iI 0), .int (jB (m3 || m4)), .int (iI ((cs.length : Int) + (ds.length : Int)))], im a 1 [], im b 1 []]) rfl ?_
  refine jt_fold (A := [ow b 1 [.ref v4, .int (iI 0), .int (jB m4), .int (iI (ds.length : Int))], oa v4 0 (lb ds ++ junk4)]) (P := SB b cap2 ds) (SB_fold hb4 hcap4 hmx4 hj4 rfl rfl) ?_
  show jT mJ3_append_5 l G _ _ _ X [SB b cap2 ds, oa v3 0 (lb (cs ++ ds) ++ junk3.drop ds.length), ow a 1 [.ref v3, .int (iI 0), .int (jB (m3 || m4)), .int (iI ((cs.length : Int) + (ds.length : Int)))], im a 1 [], im b 1 []] 69 [(2, .int (iI (ds.length : Int))), (0, .ref a), (1, .ref b)] [.ref a] _
  refine jt_pickP [2, 1, 0, 3, 4] [] rfl trivial (Φ' := [ow a 1 [.ref v3, .int (iI 0), .int (jB (m3 || m4)), .int (iI ((cs.length : Int) + (ds.length : Int)))], oa v3 0 (lb (cs ++ ds) ++ junk3.drop ds.length), SB b cap2 ds, im a 1 [], im b 1 []]) rfl ?_
  refine jt_fold (A := [ow a 1 [.ref v3, .int (iI 0), .int (jB (m3 || m4)), .int (iI ((cs.length : Int) + (ds.length : Int)))], oa v3 0 (lb (cs ++ ds) ++ junk3.drop ds.length)]) (P := SB a (sbCap cap (cs.length + ds.length)) (cs ++ ds)) (SB_fold (sb_all2 hb3 hsp2.1) (junk := junk3.drop ds.length) (by rw [List.length_append, List.length_drop]; omega) hmx3 (jfit_drop _ hj3) (by rw [List.length_append]; omega) rfl) ?_
  show jT mJ3_append_5 l G _ _ _ X [SB a (sbCap cap (cs.length + ds.length)) (cs ++ ds), SB b cap2 ds, im a 1 [], im b 1 []] 69 [(2, .int (iI (ds.length : Int))), (0, .ref a), (1, .ref b)] [.ref a] _
  exact jr_aret dJ3_append_5_69 rfl (Or.inl ⟨_, rfl⟩) (Or.inr ⟨_, rfl⟩) (Ψ := [SB a (sbCap cap (cs.length + ds.length)) (cs ++ ds), SB b cap2 ds]) ⟨rfl, rfl⟩ (js_pickP [0, 1] [] rfl trivial rfl)

