set_option maxRecDepth 100000
/-- two bytes a letter, the lower one first -/
def lu : List Nat → List Value
  | [] => []
  | c :: cs => .int (iI (sb (c % 256))) :: .int (iI (sb (c / 256))) :: lu cs
theorem lu_len : ∀ cs : List Nat, (lu cs).length = 2 * cs.length
  | [] => rfl
  | c :: cs => by simp only [lu, List.length_cons, lu_len cs]; omega
theorem lu_app : ∀ cs ds : List Nat, lu (cs ++ ds) = lu cs ++ lu ds
  | [], _ => rfl
  | c :: cs, ds => by simp only [List.cons_append, lu, lu_app cs ds]
theorem lu_lo : ∀ {cs : List Nat} {junk : List Value} {i c : Nat}, cs[i]? = some c → (lu cs ++ junk)[2 * i]? = some (.int (iI (sb (c % 256))))
  | [], _, _, _, h => by simp at h
  | x :: cs, junk, 0, c, h => by
    have h : x = c := by simpa using h
    subst h; rfl
  | x :: cs, junk, i + 1, c, h => by
    have ih := lu_lo (cs := cs) (junk := junk) (i := i) (c := c) (by simpa using h)
    exact ih
theorem lu_hi : ∀ {cs : List Nat} {junk : List Value} {i c : Nat}, cs[i]? = some c → (lu cs ++ junk)[2 * i + 1]? = some (.int (iI (sb (c / 256))))
  | [], _, _, _, h => by simp at h
  | x :: cs, junk, 0, c, h => by
    have h : x = c := by simpa using h
    subst h; rfl
  | x :: cs, junk, i + 1, c, h => by
    have ih := lu_hi (cs := cs) (junk := junk) (i := i) (c := c) (by simpa using h)
    exact ih
theorem lu_put {cs : List Nat} {junk : List Value} {c : Nat} (h : 2 ≤ junk.length) : ((lu cs ++ junk).set (2 * cs.length) (.int (iI (sb (c % 256))))).set (2 * cs.length + 1) (.int (iI (sb (c / 256)))) = lu (cs ++ [c]) ++ junk.drop 2 := by
  match junk, h with
  | x :: y :: r, _ =>
    rw [List.set_append_right _ _ (by rw [lu_len]; exact Nat.le_refl _), lu_len, Nat.sub_self, List.set_append_right _ _ (by rw [lu_len]; omega), lu_len, show 2 * cs.length + 1 - 2 * cs.length = 1 by omega, lu_app]
    simp [lu]
theorem jfit_lu : ∀ {cs : List Nat}, (∀ c ∈ cs, c < 65536) → jfit (lu cs)
  | [], _ => fun x hx => by cases hx
  | c :: cs, h => fun x hx => by
    have hc := h c List.mem_cons_self
    simp only [lu, List.mem_cons] at hx
    rcases hx with rfl | rfl | hx
    · exact ⟨_, rfl, sb_fits _ (Nat.mod_lt _ (by decide))⟩
    · exact ⟨_, rfl, sb_fits _ (by omega)⟩
    · exact jfit_lu (fun y hy => h y (List.mem_cons_of_mem _ hy)) x hx
theorem iI_shlk (z : Int) (k : Nat) (hk : k < 32) (w : Int32) (hw : w.toBitVec = BitVec.ofNat 32 k) : iI z <<< w = iI (z * 2 ^ k) := by
  apply Int32.toBitVec_inj.mp
  show (iI z).toBitVec <<< (w.toBitVec.smod 32) = (iI (z * 2 ^ k)).toBitVec
  have e : w.toBitVec.smod 32 = BitVec.ofNat 32 k := by
    rw [hw]
    have : ∀ q : Fin 32, (BitVec.ofNat 32 q.val).smod 32 = BitVec.ofNat 32 q.val := by decide
    exact this ⟨k, hk⟩
  rw [e]
  show BitVec.ofInt 32 z <<< BitVec.ofNat 32 k = BitVec.ofInt 32 (z * 2 ^ k)
  rw [BitVec.shiftLeft_eq', BitVec.toNat_ofNat, Nat.mod_eq_of_lt (by omega), BitVec.shiftLeft_eq_mul_twoPow, BitVec.ofInt_mul]
  congr 1
  apply BitVec.eq_of_toNat_eq
  rw [BitVec.toNat_twoPow]
  have e3 : ((2 : Int) ^ k) = ((2 ^ k : Nat) : Int) := by simp
  rw [e3, BitVec.ofInt_natCast, BitVec.toNat_ofNat]
theorem iI_shl1 (n : Nat) : iI (n : Int) <<< (iI 1 &&& 31) = iI ((2 * n : Nat) : Int) := by
  rw [iI_shlk (n : Int) 1 (by decide) _ (by decide)]
  congr 1; omega
theorem iI_shl8 (n : Nat) : iI (n : Int) <<< (iI 8 &&& 31) = iI ((n * 256 : Nat) : Int) := by
  rw [iI_shlk (n : Int) 8 (by decide) _ (by decide)]
  congr 1
theorem iI_shr8 {n : Nat} (h : n ≤ 2147483647) : iI (n : Int) >>> (iI 8 &&& 31) = iI ((n / 256 : Nat) : Int) := by
  have e1 : (iI 8 &&& 31) = (8 : Int32) := by decide
  rw [e1]
  apply Int32.toInt_inj.mp
  rw [iI_nat (by omega), pk_shr (iI (n : Int)) 8 8 (by decide), iI_nat h]
  show (n : Int) >>> 8 = _
  rw [Int.shiftRight_eq_div_pow]
  rfl
theorem i2b_mod (n : Nat) : (iI (n : Int)).toInt8.toInt32 = iI (sb (n % 256)) := by
  rw [← sb_i2b (n % 256) (Nat.mod_lt _ (by decide))]
  congr 1
  apply Int8.toBitVec_inj.mp
  show (iI (n : Int)).toBitVec.signExtend 8 = (iI ((n % 256 : Nat) : Int)).toBitVec.signExtend 8
  rw [BitVec.signExtend_eq_setWidth_of_le _ (by decide), BitVec.signExtend_eq_setWidth_of_le _ (by decide)]
  apply BitVec.eq_of_toNat_eq
  rw [BitVec.toNat_setWidth, BitVec.toNat_setWidth]
  show (BitVec.ofInt 32 (n : Int)).toNat % 2 ^ 8 = (BitVec.ofInt 32 ((n % 256 : Nat) : Int)).toNat % 2 ^ 8
  rw [BitVec.ofInt_natCast, BitVec.ofInt_natCast, BitVec.toNat_ofNat, BitVec.toNat_ofNat]
  omega
theorem u_or (a b : Nat) (ha : a < 256) (hb : b < 256) : iI ((a : Nat) : Int) ||| iI ((b * 256 : Nat) : Int) = iI ((a + b * 256 : Nat) : Int) := by
  apply Int32.toBitVec_inj.mp
  show BitVec.ofInt 32 (a : Int) ||| BitVec.ofInt 32 ((b * 256 : Nat) : Int) = BitVec.ofInt 32 ((a + b * 256 : Nat) : Int)
  rw [BitVec.ofInt_natCast, BitVec.ofInt_natCast, BitVec.ofInt_natCast]
  apply BitVec.eq_of_toNat_eq
  rw [BitVec.toNat_or, BitVec.toNat_ofNat, BitVec.toNat_ofNat, BitVec.toNat_ofNat, Nat.mod_eq_of_lt (by omega), Nat.mod_eq_of_lt (by omega), Nat.mod_eq_of_lt (by omega)]
  rw [Nat.or_comm, show b * 256 = b <<< 8 from by rw [Nat.shiftLeft_eq], ← Nat.shiftLeft_add_eq_or_of_lt (by omega), Nat.shiftLeft_eq]; omega
abbrev mJ6_length : jM := (cJ6_length, RJ6, 1, (Option.some FieldType.int), "length", none)
theorem oJ6_length : jcode yJ6_length mJ6_length := q499
theorem pJ6_length : jpar yJ6_length 1 := ⟨by decide +kernel, by decide +kernel, by decide +kernel⟩
theorem sp_U_length (l : Launch) (G : jG) (f : Bool) (v : Nat) (L : List Value) (n : Nat) (hn : L.length / 2 = n) (hL : L.length ≤ 2000000) : jS l G yJ6_length mJ6_length 1 [.ref v] [jA f v ((1, 0), L)] (0) (jret (fun v9 Ψ => v9 = some (.int (iI (n : Int))) ∧ Ψ = [jA f v ((1, 0), L)])) := by
  refine jS_of (plainFor_of_name (by decide)) rfl rfl rfl (Nat.le_of_ble_eq_true rfl) (fun X => ?_)
  show jT mJ6_length l G _ _ _ X [jA f v ((1, 0), L)] 0 [(0, .ref v)] [] _
  refine jlv_aload_n dJ6_length_0 rfl 0 rfl ?_
  refine jr_alen 0 rfl (ty := .byte) rfl dJ6_length_1 (n := iI (L.length : Int)) (by rw [show _ = _ from (rfl : L.length = _)]; rfl) ?_
  refine jlv_iconst (v := iI 1) dJ6_length_2 rfl ?_
  refine jlv_ishr dJ6_length_3 ?_
  rw [iI_shr1 (n := L.length) (by omega)]
  refine jt_eq (st' := [.int (iI (n : Int))]) (lv' := [(0, .ref v)]) (by first | rfl | rw [show ((L.length / 2 : Nat) : Int) = (n : Int) by omega]) rfl ?_
  exact jr_zret dJ6_length_4 rfl rfl (Ψ := [jA f v ((1, 0), L)]) ⟨rfl, rfl⟩ (js_pickP [0] [] rfl trivial rfl)

abbrev mJ6_checkIndex : jM := (cJ6_checkIndex, RJ6, 2, (Option.none : Option FieldType), "checkIndex", none)
theorem oJ6_checkIndex : jcode yJ6_checkIndex mJ6_checkIndex := q1558
theorem pJ6_checkIndex : jpar yJ6_checkIndex 2 := ⟨by decide +kernel, by decide +kernel, by decide +kernel⟩
theorem sp_U_checkIndex (l : Launch) (G : jG) (f : Bool) (v : Nat) (L : List Value) (i : Nat) (hi : i < L.length / 2) (hL : L.length ≤ 2000000) : jS l G yJ6_checkIndex mJ6_checkIndex 3 [.int (iI (i : Int)), .ref v] [jA f v ((1, 0), L)] (0) (jret (fun v9 Ψ => v9 = none ∧ Ψ = [jA f v ((1, 0), L)])) := by
  refine jS_of (plainFor_of_name (by decide)) rfl rfl rfl (Nat.le_of_ble_eq_true rfl) (fun X => ?_)
  show jT mJ6_checkIndex l G _ _ _ X [jA f v ((1, 0), L)] 0 [(0, .int (iI (i : Int))), (1, .ref v)] [] _
  refine jlv_iload_n dJ6_checkIndex_0 rfl 0 rfl ?_
  refine jlv_aload_n dJ6_checkIndex_1 rfl 1 rfl ?_
  refine jr_callS [.ref v] (sp_U_length l G f v L (L.length / 2) (rfl) (hL)) (rest := [.int (iI (i : Int))]) q497 q498 q82 oJ6_length pJ6_length (by decide) (by decide) (Nat.le_of_ble_eq_true rfl) [0] [] rfl trivial (Φr := []) rfl (by first | omega | exact Nat.zero_le _) dJ6_checkIndex_2 (fun v9 Ψ hq => ?_) (fun _ _ hq => hq.elim)
  obtain ⟨rfl, rfl⟩ := hq
  show jT mJ6_checkIndex l G _ _ _ X [jA f v ((1, 0), L)] 5 [(0, .int (iI (i : Int))), (1, .ref v)] [.int (iI ((L.length / 2 : Nat) : Int)), .int (iI (i : Int))] _
  refine jr_callS [.int (iI (i : Int)), .int (iI ((L.length / 2 : Nat) : Int))] (sp_S_checkIndex l G i (L.length / 2) (hi) (by omega)) (rest := []) q1559 q1550 q81 oJ5_checkIndex pJ5_checkIndex (by decide) (by decide) (Nat.le_of_ble_eq_true rfl) [0] [] rfl trivial (Φr := [jA f v ((1, 0), L)]) rfl (by first | omega | exact Nat.zero_le _) dJ6_checkIndex_5 (fun v9 Ψ hq => ?_) (fun _ _ hq => hq.elim)
  obtain ⟨rfl, rfl⟩ := hq
  show jT mJ6_checkIndex l G _ _ _ X [jA f v ((1, 0), L)] 8 [(0, .int (iI (i : Int))), (1, .ref v)] [] _
  exact jr_vret dJ6_checkIndex_8 rfl (Ψ := [jA f v ((1, 0), L)]) ⟨rfl, rfl⟩ (js_pickP [0] [] rfl trivial rfl)

abbrev mJ6_getChar : jM := (cJ6_getChar, RJ6, 2, (Option.some FieldType.char), "getChar", none)
theorem oJ6_getChar : jcode yJ6_getChar mJ6_getChar := q670
theorem pJ6_getChar : jpar yJ6_getChar 2 := ⟨by decide +kernel, by decide +kernel, by decide +kernel⟩
theorem sp_U_getChar (l : Launch) (G : jG) (f : Bool) (v : Nat) (cs : List Nat) (junk : List Value) (i : Nat) (c : Nat) (hc : cs[i]? = some c) (hb : c < 65536) (hL : cs.length + junk.length ≤ 900000) : jS l G yJ6_getChar mJ6_getChar 2 [.ref v, .int (iI (i : Int))] [jA f v ((1, 0), (lu cs ++ junk))] (0) (jret (fun v9 Ψ => v9 = some (.int (iI (c : Int))) ∧ Ψ = [jA f v ((1, 0), (lu cs ++ junk))])) := by
  refine jS_of (plainFor_of_name (by decide)) rfl rfl rfl (Nat.le_of_ble_eq_true rfl) (fun X => ?_)
  show jT mJ6_getChar l G _ _ _ X [jA f v ((1, 0), (lu cs ++ junk))] 0 [(0, .ref v), (1, .int (iI (i : Int)))] [] _
  have hi := jlt hc
  refine jr_g0 (fun hg0 => ?_)
  obtain ⟨gi, ⟨gea, hgea, hgea2⟩, ⟨gem, hgem, hgem2⟩, ⟨gpr, hgpr, hgpr2⟩, ⟨gic, gicad, hgic, hgic2, hgic3⟩, ⟨gcc, gccad, hgcc, hgcc2, hgcc3⟩, grf, gks⟩ := hg0
  refine jr_getsV 4 rfl q511 (v := .int (iI 1)) (gi (4, 1) (List.mem_of_getElem? (i := 1) rfl)) dJ6_getChar_0 ?_
  refine ji_if_ne 28 (by decide) dJ6_getChar_3 (by decide) (fun h_84 => ?_) (fun h_84 => absurd h_84 (by decide))
  refine jlv_iload_n dJ6_getChar_28 rfl 1 rfl ?_
  refine jlv_iconst (v := iI 1) dJ6_getChar_29 rfl ?_
  refine jlv_ishl dJ6_getChar_30 ?_
  rw [iI_shl1 i]
  refine jlv_istore_n (lv' := [(1, .int (iI ((2 * i : Nat) : Int))), (0, .ref v)]) dJ6_getChar_31 rfl (by decide) rfl ?_
  refine jlv_aload_n dJ6_getChar_32 rfl 1 rfl ?_
  refine jlv_iload_n dJ6_getChar_33 rfl 0 rfl ?_
  refine ji_iinc (lv' := [(1, .int (iI (((2 * i : Nat) : Int) + 1))), (0, .ref v)]) (((2 * i : Nat) : Int) + 1) (by omega) dJ6_getChar_34 0 rfl (by decide) rfl ?_
  refine jr_bald 0 rfl (n := (2 * i)) (iI_eqn (by omega) (by omega)) (v := .int (iI (sb (c % 256)))) (lu_lo hc) dJ6_getChar_37 ?_
  refine ji_sipush (by decide) dJ6_getChar_38 ?_
  refine jlv_iand dJ6_getChar_41 ?_
  rw [sb_and (c % 256) (Nat.mod_lt _ (by decide))]
  refine jr_getsV 5 rfl q513 (v := .int (iI 0)) (gi (5, 0) (List.mem_of_getElem? (i := 2) rfl)) dJ6_getChar_42 ?_
  refine jlv_ishl dJ6_getChar_45 ?_
  rw [iI_shl0]
  refine jlv_aload_n dJ6_getChar_46 rfl 1 rfl ?_
  refine jlv_iload_n dJ6_getChar_47 rfl 0 rfl ?_
  refine jr_bald 0 rfl (n := (2 * i + 1)) (iI_eqn (by omega) (by omega)) (v := .int (iI (sb (c / 256)))) (lu_hi hc) dJ6_getChar_48 ?_
  refine ji_sipush (by decide) dJ6_getChar_49 ?_
  refine jlv_iand dJ6_getChar_52 ?_
  rw [sb_and (c / 256) (by omega)]
  refine jr_getsV 6 rfl q515 (v := .int (iI 8)) (gi (6, 8) (List.mem_of_getElem? (i := 3) rfl)) dJ6_getChar_53 ?_
  refine jlv_ishl dJ6_getChar_56 ?_
  rw [iI_shl8 (c / 256)]
  refine jlv_ior dJ6_getChar_57 ?_
  rw [u_or (c % 256) (c / 256) (Nat.mod_lt _ (by decide)) (by omega)]
  refine ji_i2c (c : Int) (by omega) dJ6_getChar_58 ?_
  exact jr_zret dJ6_getChar_59 rfl (jn_char (by omega)) (Ψ := [jA f v ((1, 0), (lu cs ++ junk))]) ⟨rfl, rfl⟩ (js_pickP [0] [] rfl trivial rfl)

abbrev mJ6_putChar : jM := (cJ6_putChar, RJ6, 3, (Option.none : Option FieldType), "putChar", none)
theorem oJ6_putChar : jcode yJ6_putChar mJ6_putChar := q510
theorem pJ6_putChar : jpar yJ6_putChar 3 := ⟨by decide +kernel, by decide +kernel, by decide +kernel⟩
theorem sp_U_putChar (l : Launch) (G : jG) (v : Nat) (cs : List Nat) (junk : List Value) (c : Nat) (hb : c < 65536) (hj : 2 ≤ junk.length) (hL : cs.length + junk.length ≤ 900000) : jS l G yJ6_putChar mJ6_putChar 2 [.ref v, .int (iI (cs.length : Int)), .int (iI (c : Int))] [oa v 0 (lu cs ++ junk)] (0) (jret (fun v9 Ψ => v9 = none ∧ Ψ = [oa v 0 (lu (cs ++ [c]) ++ junk.drop 2)])) := by
  refine jS_of (plainFor_of_name (by decide)) rfl rfl rfl (Nat.le_of_ble_eq_true rfl) (fun X => ?_)
  show jT mJ6_putChar l G _ _ _ X [oa v 0 (lu cs ++ junk)] 0 [(0, .ref v), (1, .int (iI (cs.length : Int))), (2, .int (iI (c : Int)))] [] _
  have hul := lu_len cs
  refine jr_g0 (fun hg0 => ?_)
  obtain ⟨gi, ⟨gea, hgea, hgea2⟩, ⟨gem, hgem, hgem2⟩, ⟨gpr, hgpr, hgpr2⟩, ⟨gic, gicad, hgic, hgic2, hgic3⟩, ⟨gcc, gccad, hgcc, hgcc2, hgcc3⟩, grf, gks⟩ := hg0
  refine jr_getsV 4 rfl q511 (v := .int (iI 1)) (gi (4, 1) (List.mem_of_getElem? (i := 1) rfl)) dJ6_putChar_0 ?_
  refine ji_if_ne 28 (by decide) dJ6_putChar_3 (by decide) (fun h_85 => ?_) (fun h_85 => absurd h_85 (by decide))
  refine jlv_iload_n dJ6_putChar_28 rfl 1 rfl ?_
  refine jlv_iconst (v := iI 1) dJ6_putChar_29 rfl ?_
  refine jlv_ishl dJ6_putChar_30 ?_
  rw [iI_shl1 cs.length]
  refine jlv_istore_n (lv' := [(1, .int (iI ((2 * cs.length : Nat) : Int))), (0, .ref v), (2, .int (iI (c : Int)))]) dJ6_putChar_31 rfl (by decide) rfl ?_
  refine jlv_aload_n dJ6_putChar_32 rfl 1 rfl ?_
  refine jlv_iload_n dJ6_putChar_33 rfl 0 rfl ?_
  refine ji_iinc (lv' := [(1, .int (iI (((2 * cs.length : Nat) : Int) + 1))), (0, .ref v), (2, .int (iI (c : Int)))]) (((2 * cs.length : Nat) : Int) + 1) (by omega) dJ6_putChar_34 0 rfl (by decide) rfl ?_
  refine jlv_iload_n dJ6_putChar_37 rfl 2 rfl ?_
  refine jr_getsV 5 rfl q513 (v := .int (iI 0)) (gi (5, 0) (List.mem_of_getElem? (i := 2) rfl)) dJ6_putChar_38 ?_
  refine jlv_ishr dJ6_putChar_41 ?_
  rw [iI_shr0]
  refine jlv_i2b (v := iI (sb (c % 256))) dJ6_putChar_42 (i2b_mod c) ?_
  refine jr_bast 0 rfl (n := (2 * cs.length)) (iI_eqn (by omega) (by omega)) (by rw [List.length_append, lu_len]; omega) (v := .int (iI (sb (c % 256)))) (sb_nar _ (Nat.mod_lt _ (by decide))) dJ6_putChar_43 (Φ' := [oa v 0 ((lu cs ++ junk).set (2 * cs.length) (.int (iI (sb (c % 256)))))]) rfl ?_
  refine jlv_aload_n dJ6_putChar_44 rfl 1 rfl ?_
  refine jlv_iload_n dJ6_putChar_45 rfl 0 rfl ?_
  refine jlv_iload_n dJ6_putChar_46 rfl 2 rfl ?_
  refine jr_getsV 6 rfl q515 (v := .int (iI 8)) (gi (6, 8) (List.mem_of_getElem? (i := 3) rfl)) dJ6_putChar_47 ?_
  refine jlv_ishr dJ6_putChar_50 ?_
  rw [iI_shr8 (n := c) (by omega)]
  refine jlv_i2b (v := iI (sb (c / 256))) dJ6_putChar_51 (sb_i2b _ (by omega)) ?_
  refine jr_bast 0 rfl (n := (2 * cs.length + 1)) (iI_eqn (by omega) (by omega)) (by rw [List.length_set, List.length_append, lu_len]; omega) (v := .int (iI (sb (c / 256)))) (sb_nar _ (by omega)) dJ6_putChar_52 (Φ' := [oa v 0 (lu (cs ++ [c]) ++ junk.drop 2)]) (by rw [lu_put hj]; rfl) ?_
  exact jr_vret dJ6_putChar_53 rfl (Ψ := [oa v 0 (lu (cs ++ [c]) ++ junk.drop 2)]) ⟨rfl, rfl⟩ (js_pickP [0] [] rfl trivial rfl)

abbrev mJ6_putCharSB : jM := (cJ6_putCharSB, RJ6, 3, (Option.none : Option FieldType), "putCharSB", none)
theorem oJ6_putCharSB : jcode yJ6_putCharSB mJ6_putCharSB := q2247
theorem pJ6_putCharSB : jpar yJ6_putCharSB 3 := ⟨by decide +kernel, by decide +kernel, by decide +kernel⟩
theorem sp_U_putCharSB (l : Launch) (G : jG) (v : Nat) (cs : List Nat) (junk : List Value) (c : Nat) (hb : c < 65536) (hj : 2 ≤ junk.length) (hL : cs.length + junk.length ≤ 900000) : jS l G yJ6_putCharSB mJ6_putCharSB 4 [.ref v, .int (iI (cs.length : Int)), .int (iI (c : Int))] [oa v 0 (lu cs ++ junk)] (0) (jret (fun v9 Ψ => v9 = none ∧ Ψ = [oa v 0 (lu (cs ++ [c]) ++ junk.drop 2)])) := by
  refine jS_of (plainFor_of_name (by decide)) rfl rfl rfl (Nat.le_of_ble_eq_true rfl) (fun X => ?_)
  show jT mJ6_putCharSB l G _ _ _ X [oa v 0 (lu cs ++ junk)] 0 [(0, .ref v), (1, .int (iI (cs.length : Int))), (2, .int (iI (c : Int)))] [] _
  refine jlv_iload_n dJ6_putCharSB_0 rfl 1 rfl ?_
  refine jlv_aload_n dJ6_putCharSB_1 rfl 0 rfl ?_
  refine jr_callS [.int (iI (cs.length : Int)), .ref v] (sp_U_checkIndex l G false v (lu cs ++ junk) cs.length (by rw [List.length_append, lu_len]; omega) (by rw [List.length_append, lu_len]; omega)) (rest := []) q1556 q1557 q82 oJ6_checkIndex pJ6_checkIndex (by decide) (by decide) (Nat.le_of_ble_eq_true rfl) [0] [] rfl trivial (Φr := []) rfl (by first | omega | exact Nat.zero_le _) dJ6_putCharSB_2 (fun v9 Ψ hq => ?_) (fun _ _ hq => hq.elim)
  obtain ⟨rfl, rfl⟩ := hq
  show jT mJ6_putCharSB l G _ _ _ X [oa v 0 (lu cs ++ junk)] 5 [(0, .ref v), (1, .int (iI (cs.length : Int))), (2, .int (iI (c : Int)))] [] _
  refine jlv_aload_n dJ6_putCharSB_5 rfl 0 rfl ?_
  refine jlv_iload_n dJ6_putCharSB_6 rfl 1 rfl ?_
  refine jlv_iload_n dJ6_putCharSB_7 rfl 2 rfl ?_
  refine jr_callS [.ref v, .int (iI (cs.length : Int)), .int (iI (c : Int))] (sp_U_putChar l G v cs junk c (hb) (hj) (hL)) (rest := []) q508 q509 q82 oJ6_putChar pJ6_putChar (by decide) (by decide) (Nat.le_of_ble_eq_true rfl) [0] [] rfl trivial (Φr := []) rfl (by first | omega | exact Nat.zero_le _) dJ6_putCharSB_8 (fun v9 Ψ hq => ?_) (fun _ _ hq => hq.elim)
  obtain ⟨rfl, rfl⟩ := hq
  show jT mJ6_putCharSB l G _ _ _ X [oa v 0 (lu (cs ++ [c]) ++ junk.drop 2)] 11 [(0, .ref v), (1, .int (iI (cs.length : Int))), (2, .int (iI (c : Int)))] [] _
  exact jr_vret dJ6_putCharSB_11 rfl (Ψ := [oa v 0 (lu (cs ++ [c]) ++ junk.drop 2)]) ⟨rfl, rfl⟩ (js_pickP [0] [] rfl trivial rfl)

abbrev mJ6_newBytesLength : jM := (cJ6_newBytesLength, RJ6, 1, (Option.some FieldType.int), "newBytesLength", none)
theorem oJ6_newBytesLength : jcode yJ6_newBytesLength mJ6_newBytesLength := q216
theorem pJ6_newBytesLength : jpar yJ6_newBytesLength 1 := ⟨by decide +kernel, by decide +kernel, by decide +kernel⟩
theorem sp_U_newLen (l : Launch) (G : jG) (n : Nat) (hn : n ≤ 1000000) : jS l G yJ6_newBytesLength mJ6_newBytesLength 1 [.int (iI (n : Int))] [] (0) (jret (fun v9 Ψ => v9 = some (.int (iI ((2 * n : Nat) : Int))) ∧ Ψ = [])) := by
  refine jS_of (plainFor_of_name (by decide)) rfl rfl rfl (Nat.le_of_ble_eq_true rfl) (fun X => ?_)
  show jT mJ6_newBytesLength l G _ _ _ X [] 0 [(0, .int (iI (n : Int)))] [] _
  refine jlv_iload_n dJ6_newBytesLength_0 rfl 0 rfl ?_
  refine ji_if_ge 12 (by omega) dJ6_newBytesLength_1 (by decide) (fun h_86 => ?_) (fun h_86 => absurd h_86 (by omega))
  refine jlv_iload_n dJ6_newBytesLength_12 rfl 0 rfl ?_
  refine jlv_ldc (v := iI 1073741823) q217 dJ6_newBytesLength_13 ?_
  refine ji_icmp_lt 55 (by omega) (by omega) dJ6_newBytesLength_15 (by decide) (fun h_87 => ?_) (fun h_87 => absurd h_87 (by omega))
  refine jlv_iload_n dJ6_newBytesLength_55 rfl 0 rfl ?_
  refine jlv_iconst (v := iI 1) dJ6_newBytesLength_56 rfl ?_
  refine jlv_ishl dJ6_newBytesLength_57 ?_
  rw [iI_shl1 n]
  exact jr_zret dJ6_newBytesLength_58 rfl rfl (Ψ := []) ⟨rfl, rfl⟩ (js_pickP [] [] rfl trivial rfl)

abbrev mJ6_newBytesFor : jM := (cJ6_newBytesFor, RJ6, 1, (Option.some (FieldType.array FieldType.byte)), "newBytesFor", none)
theorem oJ6_newBytesFor : jcode yJ6_newBytesFor mJ6_newBytesFor := q213
theorem pJ6_newBytesFor : jpar yJ6_newBytesFor 1 := ⟨by decide +kernel, by decide +kernel, by decide +kernel⟩
theorem sp_U_newFor (l : Launch) (G : jG) (n : Nat) (hn : n ≤ 1000000) : jS l G yJ6_newBytesFor mJ6_newBytesFor 2 [.int (iI (n : Int))] [] ((2 * n + 7) / 4) (jret (fun v9 Ψ => ∃ r : Nat, v9 = some (.ref r) ∧ Ψ = [oa r 0 (List.replicate (2 * n) (.int (iI 0)))])) := by
  refine jS_of (plainFor_of_name (by decide)) rfl rfl rfl (Nat.le_of_ble_eq_true rfl) (fun X => ?_)
  show jT mJ6_newBytesFor l G _ _ _ X [] 0 [(0, .int (iI (n : Int)))] [] _
  refine jlv_iload_n dJ6_newBytesFor_0 rfl 0 rfl ?_
  refine jr_callS [.int (iI (n : Int))] (sp_U_newLen l G n (hn)) (rest := []) q214 q215 q82 oJ6_newBytesLength pJ6_newBytesLength (by decide) (by decide) (Nat.le_of_ble_eq_true rfl) [] [] rfl trivial (Φr := []) rfl (by first | omega | exact Nat.zero_le _) dJ6_newBytesFor_1 (fun v9 Ψ hq => ?_) (fun _ _ hq => hq.elim)
  obtain ⟨rfl, rfl⟩ := hq
  show jT mJ6_newBytesFor l G _ _ _ X [] 4 [(0, .int (iI (n : Int)))] [.int (iI ((2 * n : Nat) : Int))] _
  refine jr_newa (atype := .byte) (ty := .byte) q233 0 rfl rfl (fun c => (by intro z; cases z)) (N := (2 * n)) (iI_nat (by omega)) (by show _ * 1 ≤ _; omega) (u := (2 * n + 7) / 4) (by omega) (by omega) (by omega) dJ6_newBytesFor_4 (fun r => ?_)
  exact jr_aret dJ6_newBytesFor_6 rfl (Or.inr ⟨_, rfl⟩) (Or.inr ⟨_, rfl⟩) (Ψ := [oa r 0 (List.replicate (2 * n) (.int (iI 0)))]) ⟨r, rfl, rfl⟩ (js_pickP [0] [] rfl trivial rfl)

