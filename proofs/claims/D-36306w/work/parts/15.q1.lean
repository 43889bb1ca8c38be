set_option maxRecDepth 100000
def icmp (x y : Int) : Int := if x < y then -1 else if x = y then 0 else 1
theorem icmp_rg (x y : Int) : -1 ≤ icmp x y ∧ icmp x y ≤ 1 := by unfold icmp; split; decide; split <;> decide
abbrev mJ17_init : jM := (cJ17_init, RJ17, 1, (Option.none : Option FieldType), "<init>", none)
theorem oJ17_init : jcode yJ17_init mJ17_init := q1905
theorem pJ17_init : jpar yJ17_init 0 := ⟨by decide +kernel, by decide +kernel, by decide +kernel⟩
theorem sp_Number_init (l : Launch) (G : jG) (a : Nat) : jS l G yJ17_init mJ17_init 2 [.ref a] [] (0) (jret (fun v9 Ψ => v9 = none ∧ Ψ = [])) := by
  refine jS_of (plainFor_of_name (by decide)) rfl rfl rfl (Nat.le_of_ble_eq_true rfl) (fun X => ?_)
  show jT mJ17_init l G _ _ _ X [] 0 [(0, .ref a)] [] _
  refine jlv_aload_n dJ17_init_0 rfl 0 rfl ?_
  refine jr_objInit q1906 q161 q162 (by decide) (Nat.le_of_ble_eq_true rfl) dJ17_init_1 ?_
  exact jr_vret dJ17_init_4 rfl (Ψ := []) ⟨rfl, rfl⟩ (js_pickP [] [] rfl trivial rfl)

abbrev mJ18_init : jM := (cJ18_init, RJ18, 2, (Option.none : Option FieldType), "<init>", none)
theorem oJ18_init : jcode yJ18_init mJ18_init := q1902
theorem pJ18_init : jpar yJ18_init 1 := ⟨by decide +kernel, by decide +kernel, by decide +kernel⟩
theorem sp_Int_init (l : Launch) (G : jG) (a : Nat) (x : Int) : jS l G yJ18_init mJ18_init 3 [.ref a, .int (iI x)] [ow a 6 [.int (iI 0)]] (0) (jret (fun v9 Ψ => v9 = none ∧ Ψ = [ow a 6 [.int (iI x)]])) := by
  refine jS_of (plainFor_of_name (by decide)) rfl rfl rfl (Nat.le_of_ble_eq_true rfl) (fun X => ?_)
  show jT mJ18_init l G _ _ _ X [ow a 6 [.int (iI 0)]] 0 [(0, .ref a), (1, .int (iI x))] [] _
  refine jlv_aload_n dJ18_init_0 rfl 0 rfl ?_
  refine jr_callI [] (sp_Number_init l G a) (rest := []) rfl rfl rfl q1903 q1904 q96 oJ17_init pJ17_init (by decide) (by decide) (Nat.le_of_ble_eq_true rfl) [0] [] rfl trivial (Φr := [ow a 6 [.int (iI 0)]]) rfl (by first | omega | exact Nat.zero_le _) dJ18_init_1 (fun v9 Ψ hq => ?_) (fun _ _ hq => hq.elim)
  obtain ⟨rfl, rfl⟩ := hq
  show jT mJ18_init l G _ _ _ X [ow a 6 [.int (iI 0)]] 4 [(0, .ref a), (1, .int (iI x))] [] _
  refine jlv_aload_n dJ18_init_4 rfl 0 rfl ?_
  refine jlv_iload_n dJ18_init_5 rfl 1 rfl ?_
  refine jr_putF 0 rfl rfl 0 q1907 rfl rfl rfl rfl rfl rfl rfl dJ18_init_6 (Φ' := [ow a 6 [.int (iI x)]]) rfl ?_
  exact jr_vret dJ18_init_9 rfl (Ψ := [ow a 6 [.int (iI x)]]) ⟨rfl, rfl⟩ (js_pickP [0] [] rfl trivial rfl)

abbrev mJ45_init : jM := (cJ45_init, RJ45, 2, (Option.none : Option FieldType), "<init>", none)
theorem oJ45_init : jcode yJ45_init mJ45_init := q1641
theorem pJ45_init : jpar yJ45_init 1 := ⟨by decide +kernel, by decide +kernel, by decide +kernel⟩
theorem sp_Chr_init (l : Launch) (G : jG) (a : Nat) (x : Nat) (hx : x < 65536) : jS l G yJ45_init mJ45_init 3 [.ref a, .int (iI (x : Int))] [ow a 21 [.int (iI 0)]] (0) (jret (fun v9 Ψ => v9 = none ∧ Ψ = [ow a 21 [.int (iI (x : Int))]])) := by
  refine jS_of (plainFor_of_name (by decide)) rfl rfl rfl (Nat.le_of_ble_eq_true rfl) (fun X => ?_)
  show jT mJ45_init l G _ _ _ X [ow a 21 [.int (iI 0)]] 0 [(0, .ref a), (1, .int (iI (x : Int)))] [] _
  refine jlv_aload_n dJ45_init_0 rfl 0 rfl ?_
  refine jr_objInit q1642 q161 q162 (by decide) (Nat.le_of_ble_eq_true rfl) dJ45_init_1 ?_
  refine jlv_aload_n dJ45_init_4 rfl 0 rfl ?_
  refine jlv_iload_n dJ45_init_5 rfl 1 rfl ?_
  refine jr_putF 0 rfl rfl 0 q1643 rfl rfl rfl rfl (jn_char (by omega)) (jn_cfits (by omega)) rfl dJ45_init_6 (Φ' := [ow a 21 [.int (iI (x : Int))]]) rfl ?_
  exact jr_vret dJ45_init_9 rfl (Ψ := [ow a 21 [.int (iI (x : Int))]]) ⟨rfl, rfl⟩ (js_pickP [0] [] rfl trivial rfl)

abbrev mJ18_valueOf : jM := (cJ18_valueOf, RJ18, 1, (Option.some (FieldType.object "java/lang/Integer")), "valueOf", none)
theorem oJ18_valueOf : jcode yJ18_valueOf mJ18_valueOf := q1894
theorem pJ18_valueOf : jpar yJ18_valueOf 1 := ⟨by decide +kernel, by decide +kernel, by decide +kernel⟩
theorem sp_Int_valueOf (l : Launch) (G : jG) (x : Int) (h1 : -2147483648 ≤ x) (h2 : x ≤ 2147483647) : jS l G yJ18_valueOf mJ18_valueOf 4 [.int (iI x)] [] (1) (jret (fun v9 Ψ => ∃ r : Nat, v9 = some (.ref r) ∧ Ψ = [jInt (r, x)])) := by
  refine jS_of (plainFor_of_name (by decide)) rfl rfl rfl (Nat.le_of_ble_eq_true rfl) (fun X => ?_)
  show jT mJ18_valueOf l G _ _ _ X [] 0 [(0, .int (iI x))] [] _
  refine jr_g0 (fun hg0 => ?_)
  obtain ⟨gi, ⟨gea, hgea, hgea2⟩, ⟨gem, hgem, hgem2⟩, ⟨gpr, hgpr, hgpr2⟩, ⟨gic, gicad, hgic, hgic2, hgic3⟩, ⟨gcc, gccad, hgcc, hgcc2, hgcc3⟩, grf, gks⟩ := hg0
  refine jlv_iload_n dJ18_valueOf_0 rfl 0 rfl ?_
  refine ji_bipush (by decide) dJ18_valueOf_1 ?_
  refine ji_icmp_lt 23 (by omega) (by omega) dJ18_valueOf_3 (by decide) (fun h_122 => ?_) (fun h_122 => ?_)
  · skip
    refine jr_new (k0 := 6) rfl q947 q1899 q97 (fs := [.int (iI 0)]) rfl (u := 1) (by decide) (by decide) (by omega) dJ18_valueOf_23 (fun r => ?_)
    refine jlv_dup dJ18_valueOf_26 rfl ?_
    refine jlv_iload_n dJ18_valueOf_27 rfl 0 rfl ?_
    refine jr_callI [.int (iI x)] (sp_Int_init l G r x) (rest := [.ref r]) rfl rfl rfl q1900 q1901 q97 oJ18_init pJ18_init (by decide) (by decide) (Nat.le_of_ble_eq_true rfl) [0] [] rfl trivial (Φr := []) rfl (by first | omega | exact Nat.zero_le _) dJ18_valueOf_28 (fun v9 Ψ hq => ?_) (fun _ _ hq => hq.elim)
    obtain ⟨rfl, rfl⟩ := hq
    show jT mJ18_valueOf l G _ _ _ X [ow r 6 [.int (iI x)]] 31 [(0, .int (iI x))] [.ref r] _
    refine jt_freeze 0 rfl (Φ' := [im r 6 [.int (iI x)]]) rfl ?_
    refine jt_pickP [0] [] rfl trivial (Φ' := [im r 6 [.int (iI x)]]) rfl ?_
    refine jt_fold (A := [im r 6 [.int (iI x)]]) (P := jInt (r, x)) (fun h hh => ⟨(), ⟨h1, h2⟩, hh⟩) ?_
    show jT mJ18_valueOf l G _ _ _ X [jInt (r, x)] 31 [(0, .int (iI x))] [.ref r] _
    exact jr_aret dJ18_valueOf_31 rfl (Or.inl ⟨_, rfl⟩) (Or.inr ⟨_, rfl⟩) (Ψ := [jInt (r, x)]) ⟨r, rfl, rfl⟩ (js_pickP [0] [] rfl trivial rfl)
  · skip
    refine jlv_iload_n dJ18_valueOf_6 rfl 0 rfl ?_
    refine jr_getsV 2 rfl q1895 (v := .int (iI 127)) (gi (2, 127) (List.mem_of_getElem? (i := 12) rfl)) dJ18_valueOf_7 ?_
    refine ji_icmp_gt 23 (by omega) (by omega) dJ18_valueOf_10 (by decide) (fun h_123 => ?_) (fun h_123 => ?_)
    · skip
      refine jr_new (k0 := 6) rfl q947 q1899 q97 (fs := [.int (iI 0)]) rfl (u := 1) (by decide) (by decide) (by omega) dJ18_valueOf_23 (fun r => ?_)
      refine jlv_dup dJ18_valueOf_26 rfl ?_
      refine jlv_iload_n dJ18_valueOf_27 rfl 0 rfl ?_
      refine jr_callI [.int (iI x)] (sp_Int_init l G r x) (rest := [.ref r]) rfl rfl rfl q1900 q1901 q97 oJ18_init pJ18_init (by decide) (by decide) (Nat.le_of_ble_eq_true rfl) [0] [] rfl trivial (Φr := []) rfl (by first | omega | exact Nat.zero_le _) dJ18_valueOf_28 (fun v9 Ψ hq => ?_) (fun _ _ hq => hq.elim)
      obtain ⟨rfl, rfl⟩ := hq
      show jT mJ18_valueOf l G _ _ _ X [ow r 6 [.int (iI x)]] 31 [(0, .int (iI x))] [.ref r] _
      refine jt_freeze 0 rfl (Φ' := [im r 6 [.int (iI x)]]) rfl ?_
      refine jt_pickP [0] [] rfl trivial (Φ' := [im r 6 [.int (iI x)]]) rfl ?_
      refine jt_fold (A := [im r 6 [.int (iI x)]]) (P := jInt (r, x)) (fun h hh => ⟨(), ⟨h1, h2⟩, hh⟩) ?_
      show jT mJ18_valueOf l G _ _ _ X [jInt (r, x)] 31 [(0, .int (iI x))] [.ref r] _
      exact jr_aret dJ18_valueOf_31 rfl (Or.inl ⟨_, rfl⟩) (Or.inr ⟨_, rfl⟩) (Ψ := [jInt (r, x)]) ⟨r, rfl, rfl⟩ (js_pickP [0] [] rfl trivial rfl)
    · skip
      refine jr_getsV 1 rfl q1897 hgic dJ18_valueOf_13 ?_
      refine jlv_iload_n dJ18_valueOf_16 rfl 0 rfl ?_
      refine ji_sipush (by decide) dJ18_valueOf_17 ?_
      refine ji_iadd (x + 128) (by omega) dJ18_valueOf_20 ?_
      have hn : ((x + 128).toNat : Int) = x + 128 := by omega
      refine jt_old hgic2 ?_
      show jT mJ18_valueOf l G _ _ _ X [ia gic 7 ((List.range 256).map (fun j => Value.ref (gicad j)))] 21 [(0, .int (iI x))] [.int (iI (x + 128)), .ref gic] _
      refine jt_eq (st' := [.int (iI (((x + 128).toNat : Nat) : Int)), .ref gic]) (lv' := [(0, .int (iI x))]) (by rw [hn]) rfl ?_
      refine jr_aald 0 rfl (E := "java/lang/Integer") rfl (n := (x + 128).toNat) (iI_eqn (by omega) (by omega)) (v := .ref (gicad (x + 128).toNat)) (by rw [List.getElem?_map, List.getElem?_range (by omega)]; rfl) dJ18_valueOf_21 ?_
      refine jt_old (hgic3 (x + 128).toNat (by omega)) ?_
      refine jt_same 0 (P := im (gicad (x + 128).toNat) 6 [.int (Int32.ofInt (((x + 128).toNat : Int) - 128))]) (P' := im (gicad (x + 128).toNat) 6 [.int (iI x)]) rfl (by rw [show (((x + 128).toNat : Int) - 128) = x by omega]; rfl) (Φ' := [im (gicad (x + 128).toNat) 6 [.int (iI x)], ia gic 7 ((List.range 256).map (fun j => Value.ref (gicad j)))]) rfl ?_
      refine jt_pickP [0, 1] [] rfl trivial (Φ' := [im (gicad (x + 128).toNat) 6 [.int (iI x)], ia gic 7 ((List.range 256).map (fun j => Value.ref (gicad j)))]) rfl ?_
      refine jt_fold (A := [im (gicad (x + 128).toNat) 6 [.int (iI x)]]) (P := jInt (gicad (x + 128).toNat, x)) (fun h hh => ⟨(), ⟨h1, h2⟩, hh⟩) ?_
      show jT mJ18_valueOf l G _ _ _ X [jInt (gicad (x + 128).toNat, x), ia gic 7 ((List.range 256).map (fun j => Value.ref (gicad j)))] 22 [(0, .int (iI x))] [.ref (gicad (x + 128).toNat)] _
      exact jr_aret dJ18_valueOf_22 rfl (Or.inl ⟨_, rfl⟩) (Or.inr ⟨_, rfl⟩) (Ψ := [jInt ((gicad (x + 128).toNat), x)]) ⟨(gicad (x + 128).toNat), rfl, rfl⟩ (js_pickP [0] [] rfl trivial rfl)

abbrev mJ45_valueOf : jM := (cJ45_valueOf, RJ45, 1, (Option.some (FieldType.object "java/lang/Character")), "valueOf", none)
theorem oJ45_valueOf : jcode yJ45_valueOf mJ45_valueOf := q1635
theorem pJ45_valueOf : jpar yJ45_valueOf 1 := ⟨by decide +kernel, by decide +kernel, by decide +kernel⟩
theorem sp_Chr_valueOf (l : Launch) (G : jG) (x : Nat) (h1 : x < 65536) : jS l G yJ45_valueOf mJ45_valueOf 4 [.int (iI (x : Int))] [] (1) (jret (fun v9 Ψ => ∃ r : Nat, v9 = some (.ref r) ∧ Ψ = [jChr (r, x)])) := by
  refine jS_of (plainFor_of_name (by decide)) rfl rfl rfl (Nat.le_of_ble_eq_true rfl) (fun X => ?_)
  show jT mJ45_valueOf l G _ _ _ X [] 0 [(0, .int (iI (x : Int)))] [] _
  refine jr_g0 (fun hg0 => ?_)
  obtain ⟨gi, ⟨gea, hgea, hgea2⟩, ⟨gem, hgem, hgem2⟩, ⟨gpr, hgpr, hgpr2⟩, ⟨gic, gicad, hgic, hgic2, hgic3⟩, ⟨gcc, gccad, hgcc, hgcc2, hgcc3⟩, grf, gks⟩ := hg0
  refine jlv_iload_n dJ45_valueOf_0 rfl 0 rfl ?_
  refine ji_bipush (by decide) dJ45_valueOf_1 ?_
  refine ji_icmp_gt 12 (by omega) (by omega) dJ45_valueOf_3 (by decide) (fun h_124 => ?_) (fun h_124 => ?_)
  · skip
    refine jr_new (k0 := 21) rfl q940 q1638 q128 (fs := [.int (iI 0)]) rfl (u := 1) (by decide) (by decide) (by omega) dJ45_valueOf_12 (fun r => ?_)
    refine jlv_dup dJ45_valueOf_15 rfl ?_
    refine jlv_iload_n dJ45_valueOf_16 rfl 0 rfl ?_
    refine jr_callI [.int (iI (x : Int))] (sp_Chr_init l G r x (h1)) (rest := [.ref r]) rfl rfl rfl q1639 q1640 q128 oJ45_init pJ45_init (by decide) (by decide) (Nat.le_of_ble_eq_true rfl) [0] [] rfl trivial (Φr := []) rfl (by first | omega | exact Nat.zero_le _) dJ45_valueOf_17 (fun v9 Ψ hq => ?_) (fun _ _ hq => hq.elim)
    obtain ⟨rfl, rfl⟩ := hq
    show jT mJ45_valueOf l G _ _ _ X [ow r 21 [.int (iI (x : Int))]] 20 [(0, .int (iI (x : Int)))] [.ref r] _
    refine jt_freeze 0 rfl (Φ' := [im r 21 [.int (iI (x : Int))]]) rfl ?_
    refine jt_pickP [0] [] rfl trivial (Φ' := [im r 21 [.int (iI (x : Int))]]) rfl ?_
    refine jt_fold (A := [im r 21 [.int (iI (x : Int))]]) (P := jChr (r, x)) (fun h hh => ⟨(), h1, hh⟩) ?_
    show jT mJ45_valueOf l G _ _ _ X [jChr (r, x)] 20 [(0, .int (iI (x : Int)))] [.ref r] _
    exact jr_aret dJ45_valueOf_20 rfl (Or.inl ⟨_, rfl⟩) (Or.inr ⟨_, rfl⟩) (Ψ := [jChr (r, x)]) ⟨r, rfl, rfl⟩ (js_pickP [0] [] rfl trivial rfl)
  · skip
    refine jr_getsV 0 rfl q1636 hgcc dJ45_valueOf_6 ?_
    refine jlv_iload_n dJ45_valueOf_9 rfl 0 rfl ?_
    refine jt_old hgcc2 ?_
    show jT mJ45_valueOf l G _ _ _ X [ia gcc 8 ((List.range 128).map (fun j => Value.ref (gccad j)))] 10 [(0, .int (iI (x : Int)))] [.int (iI (x : Int)), .ref gcc] _
    refine jr_aald 0 rfl (E := "java/lang/Character") rfl (n := x) (iI_eqn (by omega) (by omega)) (v := .ref (gccad x)) (by rw [List.getElem?_map, List.getElem?_range (by omega)]; rfl) dJ45_valueOf_10 ?_
    refine jt_old (hgcc3 x (by omega)) ?_
    show jT mJ45_valueOf l G _ _ _ X [im (gccad x) 21 [.int (iI (x : Int))], ia gcc 8 ((List.range 128).map (fun j => Value.ref (gccad j)))] 11 [(0, .int (iI (x : Int)))] [.ref (gccad x)] _
    refine jt_pickP [0, 1] [] rfl trivial (Φ' := [im (gccad x) 21 [.int (iI (x : Int))], ia gcc 8 ((List.range 128).map (fun j => Value.ref (gccad j)))]) rfl ?_
    refine jt_fold (A := [im (gccad x) 21 [.int (iI (x : Int))]]) (P := jChr (gccad x, x)) (fun h hh => ⟨(), h1, hh⟩) ?_
    show jT mJ45_valueOf l G _ _ _ X [jChr (gccad x, x), ia gcc 8 ((List.range 128).map (fun j => Value.ref (gccad j)))] 11 [(0, .int (iI (x : Int)))] [.ref (gccad x)] _
    exact jr_aret dJ45_valueOf_11 rfl (Or.inl ⟨_, rfl⟩) (Or.inr ⟨_, rfl⟩) (Ψ := [jChr ((gccad x), x)]) ⟨(gccad x), rfl, rfl⟩ (js_pickP [0] [] rfl trivial rfl)

abbrev mJ18_intValue : jM := (cJ18_intValue, RJ18, 1, (Option.some FieldType.int), "intValue", none)
theorem oJ18_intValue : jcode yJ18_intValue mJ18_intValue := q951
theorem pJ18_intValue : jpar yJ18_intValue 0 := ⟨by decide +kernel, by decide +kernel, by decide +kernel⟩
theorem sp_Int_intValue (l : Launch) (G : jG) (a : Nat) (x : Int) : jS l G yJ18_intValue mJ18_intValue 1 [.ref a] [jInt (a, x)] (0) (jret (fun v9 Ψ => v9 = some (.int (iI x)) ∧ Ψ = [])) := by
  refine jS_of (plainFor_of_name (by decide)) rfl rfl rfl (Nat.le_of_ble_eq_true rfl) (fun X => ?_)
  show jT mJ18_intValue l G _ _ _ X [jInt (a, x)] 0 [(0, .ref a)] [] _
  refine jt_dup 0 rfl (jpers_Int _) ?_
  refine jt_open ?_
  rintro ⟨⟩ ⟨hr1, hr2⟩
  try dsimp only at hr1 hr2
  show jT mJ18_intValue l G _ _ _ X [im a 6 [.int (iI x)], jInt (a, x)] 0 [(0, .ref a)] [] _
  refine jlv_aload_n dJ18_intValue_0 rfl 0 rfl ?_
  refine jr_get 0 rfl rfl 0 q1907 (Or.inl rfl) rfl dJ18_intValue_1 ?_
  exact jr_zret dJ18_intValue_4 rfl rfl (Ψ := []) ⟨rfl, rfl⟩ (js_pickP [] [] rfl trivial rfl)

abbrev mJ45_charValue : jM := (cJ45_charValue, RJ45, 1, (Option.some FieldType.char), "charValue", none)
theorem oJ45_charValue : jcode yJ45_charValue mJ45_charValue := q944
theorem pJ45_charValue : jpar yJ45_charValue 0 := ⟨by decide +kernel, by decide +kernel, by decide +kernel⟩
theorem sp_Chr_charValue (l : Launch) (G : jG) (a : Nat) (x : Nat) : jS l G yJ45_charValue mJ45_charValue 1 [.ref a] [jChr (a, x)] (0) (jret (fun v9 Ψ => v9 = some (.int (iI (x : Int))) ∧ Ψ = [])) := by
  refine jS_of (plainFor_of_name (by decide)) rfl rfl rfl (Nat.le_of_ble_eq_true rfl) (fun X => ?_)
  show jT mJ45_charValue l G _ _ _ X [jChr (a, x)] 0 [(0, .ref a)] [] _
  refine jt_dup 0 rfl (jpers_Chr _) ?_
  refine jt_open ?_
  rintro ⟨⟩ hr1
  try dsimp only at hr1
  show jT mJ45_charValue l G _ _ _ X [im a 21 [.int (iI (x : Int))], jChr (a, x)] 0 [(0, .ref a)] [] _
  refine jlv_aload_n dJ45_charValue_0 rfl 0 rfl ?_
  refine jr_get 0 rfl rfl 0 q1643 (Or.inl rfl) rfl dJ45_charValue_1 ?_
  exact jr_zret dJ45_charValue_4 rfl (jn_char (by omega)) (Ψ := []) ⟨rfl, rfl⟩ (js_pickP [] [] rfl trivial rfl)

abbrev mJ18_equals : jM := (cJ18_equals, RJ18, 2, (Option.some FieldType.boolean), "equals", none)
theorem oJ18_equals : jcode yJ18_equals mJ18_equals := q946
theorem pJ18_equals : jpar yJ18_equals 1 := ⟨by decide +kernel, by decide +kernel, by decide +kernel⟩
theorem sp_Int_equals (l : Launch) (G : jG) (a : Nat) (x : Int) (b : Nat) (y : Int) : jS l G yJ18_equals mJ18_equals 2 [.ref a, .ref b] [jInt (a, x), jInt (b, y)] (0) (jret (fun v9 Ψ => v9 = some (.int (jB (decide (x = y)))) ∧ Ψ = [])) := by
  refine jS_of (plainFor_of_name (by decide)) rfl rfl rfl (Nat.le_of_ble_eq_true rfl) (fun X => ?_)
  show jT mJ18_equals l G _ _ _ X [jInt (a, x), jInt (b, y)] 0 [(0, .ref a), (1, .ref b)] [] _
  refine jt_pure 0 rfl jInt_rg (fun ra => ?_)
  refine jt_pure 1 rfl jInt_rg (fun rb => ?_)
  dsimp only at ra rb
  show jT mJ18_equals l G _ _ _ X [jInt (a, x), jInt (b, y)] 0 [(0, .ref a), (1, .ref b)] [] _
  refine jt_dup 0 rfl (jpers_Int _) ?_
  refine jt_open ?_
  rintro ⟨⟩ ⟨hr1, hr2⟩
  try dsimp only at hr1 hr2
  show jT mJ18_equals l G _ _ _ X [im a 6 [.int (iI x)], jInt (a, x), jInt (b, y)] 0 [(0, .ref a), (1, .ref b)] [] _
  refine jlv_aload_n dJ18_equals_0 rfl 1 rfl ?_
  refine jt_cls 2 rfl jInt_has ?_
  refine jt_E 0 (E := "java/lang/Integer") rfl rfl (Or.inl rfl) ?_
  refine jr_inst 0 rfl q947 dJ18_equals_1 ?_
  show jT mJ18_equals l G _ _ _ X [jE "java/lang/Integer" b, im b 6 [], im a 6 [.int (iI x)], jInt (a, x), jInt (b, y)] 4 [(0, .ref a), (1, .ref b)] [.int (iI 1)] _
  refine ji_if_eq 27 (by decide) dJ18_equals_4 (by decide) (fun h_125 => absurd h_125 (by decide)) (fun h_125 => ?_)
  refine jlv_aload_n dJ18_equals_7 rfl 0 rfl ?_
  refine jr_get 2 rfl rfl 0 q1907 (Or.inl rfl) rfl dJ18_equals_8 ?_
  refine jlv_aload_n dJ18_equals_11 rfl 1 rfl ?_
  refine jr_cast 0 rfl q947 dJ18_equals_12 ?_
  refine jr_callV [] (sp_Int_intValue l G b y) (rest := [.int (iI x)]) 1 rfl rfl rfl q948 q949 q950 q97 oJ18_intValue pJ18_intValue (by decide) (by decide) (Nat.le_of_ble_eq_true rfl) [4, 0, 1, 2, 3, 4] [4] rfl ⟨⟨_, rfl, (jpers_Int _)⟩, trivial⟩ (Φr := [jE "java/lang/Integer" b, im b 6 [], im a 6 [.int (iI x)], jInt (a, x), jInt (b, y)]) rfl (by first | omega | exact Nat.zero_le _) dJ18_equals_15 (fun v9 Ψ hq => ?_) (fun _ _ hq => hq.elim)
  obtain ⟨rfl, rfl⟩ := hq
  show jT mJ18_equals l G _ _ _ X [jE "java/lang/Integer" b, im b 6 [], im a 6 [.int (iI x)], jInt (a, x), jInt (b, y)] 18 [(0, .ref a), (1, .ref b)] [.int (iI y), .int (iI x)] _
  refine ji_icmp_ne 25 (by omega) (by omega) dJ18_equals_18 (by decide) (fun h_126 => ?_) (fun h_126 => ?_)
  · skip
    refine jlv_iconst (v := iI 0) dJ18_equals_25 rfl ?_
    exact jr_zret dJ18_equals_26 rfl rfl (Ψ := []) ⟨(by congr 2; first | exact jB_t (decide_eq_true (by omega)) | exact jB_f (decide_eq_false (by omega))), rfl⟩ (js_pickP [] [] rfl trivial rfl)
  · skip
    refine jlv_iconst (v := iI 1) dJ18_equals_21 rfl ?_
    refine jlv_goto (tgt := 26) dJ18_equals_22 (by decide) ?_
    exact jr_zret dJ18_equals_26 rfl rfl (Ψ := []) ⟨(by congr 2; first | exact jB_t (decide_eq_true (by omega)) | exact jB_f (decide_eq_false (by omega))), rfl⟩ (js_pickP [] [] rfl trivial rfl)

abbrev mJ45_equals : jM := (cJ45_equals, RJ45, 2, (Option.some FieldType.boolean), "equals", none)
theorem oJ45_equals : jcode yJ45_equals mJ45_equals := q939
theorem pJ45_equals : jpar yJ45_equals 1 := ⟨by decide +kernel, by decide +kernel, by decide +kernel⟩
theorem sp_Chr_equals (l : Launch) (G : jG) (a : Nat) (x : Nat) (b : Nat) (y : Nat) : jS l G yJ45_equals mJ45_equals 2 [.ref a, .ref b] [jChr (a, x), jChr (b, y)] (0) (jret (fun v9 Ψ => v9 = some (.int (jB (decide (x = y)))) ∧ Ψ = [])) := by
  refine jS_of (plainFor_of_name (by decide)) rfl rfl rfl (Nat.le_of_ble_eq_true rfl) (fun X => ?_)
  show jT mJ45_equals l G _ _ _ X [jChr (a, x), jChr (b, y)] 0 [(0, .ref a), (1, .ref b)] [] _
  refine jt_pure 0 rfl jChr_rg (fun ra => ?_)
  refine jt_pure 1 rfl jChr_rg (fun rb => ?_)
  dsimp only at ra rb
  show jT mJ45_equals l G _ _ _ X [jChr (a, x), jChr (b, y)] 0 [(0, .ref a), (1, .ref b)] [] _
  refine jt_dup 0 rfl (jpers_Chr _) ?_
  refine jt_open ?_
  rintro ⟨⟩ hr1
  try dsimp only at hr1
  show jT mJ45_equals l G _ _ _ X [im a 21 [.int (iI (x : Int))], jChr (a, x), jChr (b, y)] 0 [(0, .ref a), (1, .ref b)] [] _
  refine jlv_aload_n dJ45_equals_0 rfl 1 rfl ?_
  refine jt_cls 2 rfl jChr_has ?_
  refine jt_E 0 (E := "java/lang/Character") rfl rfl (Or.inl rfl) ?_
  refine jr_inst 0 rfl q940 dJ45_equals_1 ?_
  show jT mJ45_equals l G _ _ _ X [jE "java/lang/Character" b, im b 21 [], im a 21 [.int (iI (x : Int))], jChr (a, x), jChr (b, y)] 4 [(0, .ref a), (1, .ref b)] [.int (iI 1)] _
  refine ji_if_eq 27 (by decide) dJ45_equals_4 (by decide) (fun h_127 => absurd h_127 (by decide)) (fun h_127 => ?_)
  refine jlv_aload_n dJ45_equals_7 rfl 0 rfl ?_
  refine jr_get 2 rfl rfl 0 q1643 (Or.inl rfl) rfl dJ45_equals_8 ?_
  refine jlv_aload_n dJ45_equals_11 rfl 1 rfl ?_
  refine jr_cast 0 rfl q940 dJ45_equals_12 ?_
  refine jr_callV [] (sp_Chr_charValue l G b y) (rest := [.int (iI (x : Int))]) 1 rfl rfl rfl q941 q942 q943 q128 oJ45_charValue pJ45_charValue (by decide) (by decide) (Nat.le_of_ble_eq_true rfl) [4, 0, 1, 2, 3, 4] [4] rfl ⟨⟨_, rfl, (jpers_Chr _)⟩, trivial⟩ (Φr := [jE "java/lang/Character" b, im b 21 [], im a 21 [.int (iI (x : Int))], jChr (a, x), jChr (b, y)]) rfl (by first | omega | exact Nat.zero_le _) dJ45_equals_15 (fun v9 Ψ hq => ?_) (fun _ _ hq => hq.elim)
  obtain ⟨rfl, rfl⟩ := hq
  show jT mJ45_equals l G _ _ _ X [jE "java/lang/Character" b, im b 21 [], im a 21 [.int (iI (x : Int))], jChr (a, x), jChr (b, y)] 18 [(0, .ref a), (1, .ref b)] [.int (iI (y : Int)), .int (iI (x : Int))] _
  refine ji_icmp_ne 25 (by omega) (by omega) dJ45_equals_18 (by decide) (fun h_128 => ?_) (fun h_128 => ?_)
  · skip
    refine jlv_iconst (v := iI 0) dJ45_equals_25 rfl ?_
    exact jr_zret dJ45_equals_26 rfl rfl (Ψ := []) ⟨(by congr 2; first | exact jB_t (decide_eq_true (by omega)) | exact jB_f (decide_eq_false (by omega))), rfl⟩ (js_pickP [] [] rfl trivial rfl)
  · skip
    refine jlv_iconst (v := iI 1) dJ45_equals_21 rfl ?_
    refine jlv_goto (tgt := 26) dJ45_equals_22 (by decide) ?_
    exact jr_zret dJ45_equals_26 rfl rfl (Ψ := []) ⟨(by congr 2; first | exact jB_t (decide_eq_true (by omega)) | exact jB_f (decide_eq_false (by omega))), rfl⟩ (js_pickP [] [] rfl trivial rfl)

abbrev mJ18_compare : jM := (cJ18_compare, RJ18, 2, (Option.some FieldType.int), "compare", none)
theorem oJ18_compare : jcode yJ18_compare mJ18_compare := q3519
theorem pJ18_compare : jpar yJ18_compare 2 := ⟨by decide +kernel, by decide +kernel, by decide +kernel⟩
theorem sp_Int_compare (l : Launch) (G : jG) (x : Int) (y : Int) (h1 : -2147483648 ≤ x ∧ x ≤ 2147483647) (h2 : -2147483648 ≤ y ∧ y ≤ 2147483647) : jS l G yJ18_compare mJ18_compare 1 [.int (iI x), .int (iI y)] [] (0) (jret (fun v9 Ψ => v9 = some (.int (iI (icmp x y))) ∧ Ψ = [])) := by
  refine jS_of (plainFor_of_name (by decide)) rfl rfl rfl (Nat.le_of_ble_eq_true rfl) (fun X => ?_)
  show jT mJ18_compare l G _ _ _ X [] 0 [(0, .int (iI x)), (1, .int (iI y))] [] _
  refine jlv_iload_n dJ18_compare_0 rfl 0 rfl ?_
  refine jlv_iload_n dJ18_compare_1 rfl 1 rfl ?_
  refine ji_icmp_ge 9 (by omega) (by omega) dJ18_compare_2 (by decide) (fun h_129 => ?_) (fun h_129 => ?_)
  · skip
    refine jlv_iload_n dJ18_compare_9 rfl 0 rfl ?_
    refine jlv_iload_n dJ18_compare_10 rfl 1 rfl ?_
    refine ji_icmp_ne 18 (by omega) (by omega) dJ18_compare_11 (by decide) (fun h_130 => ?_) (fun h_130 => ?_)
    · skip
      refine jlv_iconst (v := iI 1) dJ18_compare_18 rfl ?_
      exact jr_zret dJ18_compare_19 rfl rfl (Ψ := []) ⟨(by unfold icmp; rw [if_neg (by omega), if_neg (by omega)]), rfl⟩ (js_pickP [] [] rfl trivial rfl)
    · skip
      refine jlv_iconst (v := iI 0) dJ18_compare_14 rfl ?_
      refine jlv_goto (tgt := 19) dJ18_compare_15 (by decide) ?_
      exact jr_zret dJ18_compare_19 rfl rfl (Ψ := []) ⟨(by unfold icmp; rw [if_neg (by omega), if_pos (by omega)]), rfl⟩ (js_pickP [] [] rfl trivial rfl)
  · skip
    refine jlv_iconst (v := iI (-1)) dJ18_compare_5 rfl ?_
    refine jlv_goto (tgt := 19) dJ18_compare_6 (by decide) ?_
    exact jr_zret dJ18_compare_19 rfl rfl (Ψ := []) ⟨(by unfold icmp; rw [if_pos (by omega)]), rfl⟩ (js_pickP [] [] rfl trivial rfl)

abbrev mJ18_compareTo_2 : jM := (cJ18_compareTo_2, RJ18, 2, (Option.some FieldType.int), "compareTo", none)
theorem oJ18_compareTo_2 : jcode yJ18_compareTo_2 mJ18_compareTo_2 := q3516
theorem pJ18_compareTo_2 : jpar yJ18_compareTo_2 1 := ⟨by decide +kernel, by decide +kernel, by decide +kernel⟩
theorem sp_Int_compareTo (l : Launch) (G : jG) (a : Nat) (x : Int) (b : Nat) (y : Int) : jS l G yJ18_compareTo_2 mJ18_compareTo_2 2 [.ref a, .ref b] [jInt (a, x), jInt (b, y)] (0) (jret (fun v9 Ψ => v9 = some (.int (iI (icmp x y))) ∧ Ψ = [])) := by
  refine jS_of (plainFor_of_name (by decide)) rfl rfl rfl (Nat.le_of_ble_eq_true rfl) (fun X => ?_)
  show jT mJ18_compareTo_2 l G _ _ _ X [jInt (a, x), jInt (b, y)] 0 [(0, .ref a), (1, .ref b)] [] _
  refine jt_pure 0 rfl jInt_rg (fun ra => ?_)
  refine jt_pure 1 rfl jInt_rg (fun rb => ?_)
  dsimp only at ra rb
  show jT mJ18_compareTo_2 l G _ _ _ X [jInt (a, x), jInt (b, y)] 0 [(0, .ref a), (1, .ref b)] [] _
  refine jt_dup 0 rfl (jpers_Int _) ?_
  refine jt_open ?_
  rintro ⟨⟩ ⟨hr1, hr2⟩
  try dsimp only at hr1 hr2
  show jT mJ18_compareTo_2 l G _ _ _ X [im a 6 [.int (iI x)], jInt (a, x), jInt (b, y)] 0 [(0, .ref a), (1, .ref b)] [] _
  refine jt_dup 2 rfl (jpers_Int _) ?_
  refine jt_open ?_
  rintro ⟨⟩ ⟨hr3, hr4⟩
  try dsimp only at hr3 hr4
  show jT mJ18_compareTo_2 l G _ _ _ X [im b 6 [.int (iI y)], im a 6 [.int (iI x)], jInt (a, x), jInt (b, y)] 0 [(0, .ref a), (1, .ref b)] [] _
  refine jlv_aload_n dJ18_compareTo_2_0 rfl 0 rfl ?_
  refine jr_get 1 rfl rfl 0 q1907 (Or.inl rfl) rfl dJ18_compareTo_2_1 ?_
  refine jlv_aload_n dJ18_compareTo_2_4 rfl 1 rfl ?_
  refine jr_get 0 rfl rfl 0 q1907 (Or.inl rfl) rfl dJ18_compareTo_2_5 ?_
  refine jr_callS [.int (iI x), .int (iI y)] (sp_Int_compare l G x y (ra) (rb)) (rest := []) q3517 q3518 q97 oJ18_compare pJ18_compare (by decide) (by decide) (Nat.le_of_ble_eq_true rfl) [0, 1, 2, 3] [] rfl trivial (Φr := [im b 6 [.int (iI y)], im a 6 [.int (iI x)], jInt (a, x), jInt (b, y)]) rfl (by first | omega | exact Nat.zero_le _) dJ18_compareTo_2_8 (fun v9 Ψ hq => ?_) (fun _ _ hq => hq.elim)
  obtain ⟨rfl, rfl⟩ := hq
  show jT mJ18_compareTo_2 l G _ _ _ X [im b 6 [.int (iI y)], im a 6 [.int (iI x)], jInt (a, x), jInt (b, y)] 11 [(0, .ref a), (1, .ref b)] [.int (iI (icmp x y))] _
  exact jr_zret dJ18_compareTo_2_11 rfl rfl (Ψ := []) ⟨rfl, rfl⟩ (js_pickP [] [] rfl trivial rfl)

abbrev mJ18_compareTo : jM := (cJ18_compareTo, RJ18, 2, (Option.some FieldType.int), "compareTo", none)
theorem oJ18_compareTo : jcode yJ18_compareTo mJ18_compareTo := q3512
theorem pJ18_compareTo : jpar yJ18_compareTo 1 := ⟨by decide +kernel, by decide +kernel, by decide +kernel⟩
theorem sp_Int_compareToO (l : Launch) (G : jG) (a : Nat) (x : Int) (b : Nat) (y : Int) : jS l G yJ18_compareTo mJ18_compareTo 3 [.ref a, .ref b] [jInt (a, x), jInt (b, y)] (0) (jret (fun v9 Ψ => v9 = some (.int (iI (icmp x y))) ∧ Ψ = [])) := by
  refine jS_of (plainFor_of_name (by decide)) rfl rfl rfl (Nat.le_of_ble_eq_true rfl) (fun X => ?_)
  show jT mJ18_compareTo l G _ _ _ X [jInt (a, x), jInt (b, y)] 0 [(0, .ref a), (1, .ref b)] [] _
  refine jlv_aload_n dJ18_compareTo_0 rfl 0 rfl ?_
  refine jlv_aload_n dJ18_compareTo_1 rfl 1 rfl ?_
  refine jt_cls 1 rfl jInt_has ?_
  refine jt_E 0 (E := "java/lang/Integer") rfl rfl (Or.inl rfl) ?_
  refine jr_cast 0 rfl q947 dJ18_compareTo_2 ?_
  refine jt_cls 2 rfl jInt_has ?_
  refine jr_callV [.ref b] (sp_Int_compareTo l G a x b y) (rest := []) 0 rfl rfl rfl q3513 q3514 q3515 q97 oJ18_compareTo_2 pJ18_compareTo_2 (by decide) (by decide) (Nat.le_of_ble_eq_true rfl) [3, 4, 0, 1, 2, 3, 4] [3, 4] rfl ⟨⟨_, rfl, (jpers_Int _)⟩, ⟨⟨_, rfl, (jpers_Int _)⟩, trivial⟩⟩ (Φr := [im a 6 [], jE "java/lang/Integer" b, im b 6 [], jInt (a, x), jInt (b, y)]) rfl (by first | omega | exact Nat.zero_le _) dJ18_compareTo_5 (fun v9 Ψ hq => ?_) (fun _ _ hq => hq.elim)
  obtain ⟨rfl, rfl⟩ := hq
  show jT mJ18_compareTo l G _ _ _ X [im a 6 [], jE "java/lang/Integer" b, im b 6 [], jInt (a, x), jInt (b, y)] 8 [(0, .ref a), (1, .ref b)] [.int (iI (icmp x y))] _
  exact jr_zret dJ18_compareTo_8 rfl rfl (Ψ := []) ⟨rfl, rfl⟩ (js_pickP [] [] rfl trivial rfl)

