/-! ints by their numbers -/
def iI (z : Int) : Int32 := Int32.ofInt z
def jB (p : Bool) : Int32 := if p then 1 else 0
theorem iI_toInt {z : Int} (h : -2147483648 ≤ z ∧ z ≤ 2147483647) : (iI z).toInt = z := by
  unfold iI
  rw [Int32.toInt_ofInt]
  exact Jvm.LawKit.bmod32 (by omega) (by omega)
theorem iI_nat {n : Nat} (h : n ≤ 2147483647) : (iI (n : Int)).toInt = (n : Int) := iI_toInt (by omega)
theorem iI_of (x : Int32) : iI x.toInt = x := Int32.ofInt_toInt x
theorem iI_add (a b : Int) : iI a + iI b = iI (a + b) := (Int32.ofInt_add a b).symm
theorem iI_sub (a b : Int) : iI a - iI b = iI (a - b) := (Int32.ofInt_sub a b).symm
theorem iI_mul (a b : Int) : iI a * iI b = iI (a * b) := (Int32.ofInt_mul a b).symm
theorem iI_neg (a : Int) : -iI a = iI (-a) := (Int32.ofInt_neg a).symm
theorem iI_le {a b : Int} (ha : -2147483648 ≤ a ∧ a ≤ 2147483647) (hb : -2147483648 ≤ b ∧ b ≤ 2147483647) : iI a ≤ iI b ↔ a ≤ b := by rw [Int32.le_iff_toInt_le, iI_toInt ha, iI_toInt hb]
theorem iI_lt {a b : Int} (ha : -2147483648 ≤ a ∧ a ≤ 2147483647) (hb : -2147483648 ≤ b ∧ b ≤ 2147483647) : iI a < iI b ↔ a < b := by rw [Int32.lt_iff_toInt_lt, iI_toInt ha, iI_toInt hb]
theorem iI_eq {a b : Int} (ha : -2147483648 ≤ a ∧ a ≤ 2147483647) (hb : -2147483648 ≤ b ∧ b ≤ 2147483647) : iI a = iI b ↔ a = b := by rw [← Int32.toInt_inj, iI_toInt ha, iI_toInt hb]
theorem iI_0 : (0 : Int32) = iI 0 := rfl
theorem jB_t {p : Bool} (h : p = true) : iI 1 = jB p := by rw [h]; rfl
theorem jB_f {p : Bool} (h : p = false) : iI 0 = jB p := by rw [h]; rfl
theorem jB_nar (p : Bool) : narrow .boolean (.int (jB p)) = .int (jB p) := by cases p <;> rfl
section JI
variable {M : jM} {l : Launch} {G : jG} {d C : Nat} {Q : jQ} {X : jX} {Φ : List jP} {pc : Nat} {lv lv' : List (Nat × Value)} {rest : List Value} {b : Nat}
theorem ji_iadd {x y : Int} (z : Int) (hz : x + y = z) (hdg : decode M.1 pc = .ok (.iadd, 1)) (k : jT M l G d C Q X Φ (pc + 1) lv (.int (iI z) :: rest) b) : jT M l G d C Q X Φ pc lv (.int (iI y) :: .int (iI x) :: rest) b := jlv_iadd hdg (by rw [iI_add, hz]; exact k)
theorem ji_isub {x y : Int} (z : Int) (hz : x - y = z) (hdg : decode M.1 pc = .ok (.isub, 1)) (k : jT M l G d C Q X Φ (pc + 1) lv (.int (iI z) :: rest) b) : jT M l G d C Q X Φ pc lv (.int (iI y) :: .int (iI x) :: rest) b := jlv_isub hdg (by rw [iI_sub, hz]; exact k)
theorem ji_imul {x y : Int} (z : Int) (hz : x * y = z) (hdg : decode M.1 pc = .ok (.imul, 1)) (k : jT M l G d C Q X Φ (pc + 1) lv (.int (iI z) :: rest) b) : jT M l G d C Q X Φ pc lv (.int (iI y) :: .int (iI x) :: rest) b := jlv_imul hdg (by rw [iI_mul, hz]; exact k)
theorem ji_ineg {x : Int} (z : Int) (hz : -x = z) (hdg : decode M.1 pc = .ok (.ineg, 1)) (k : jT M l G d C Q X Φ (pc + 1) lv (.int (iI z) :: rest) b) : jT M l G d C Q X Φ pc lv (.int (iI x) :: rest) b := jlv_ineg hdg (by rw [iI_neg, hz]; exact k)
theorem ji_iinc {i : Nat} {n x : Int} (z : Int) (hz : x + n = z) (hdg : decode M.1 pc = .ok (.iinc i n, 3)) (k : Nat) (hk : lv[k]? = some (i, .int (iI x))) (hn : i < M.2.2.1) (hl : (i, Value.int (iI z)) :: lv.filter (fun q => !(q.1 == i) && !(q.1 + 1 == i && q.2.category == 2)) = lv') (kk : jT M l G d C Q X Φ (pc + 3) lv' rest b) : jT M l G d C Q X Φ pc lv rest b :=
  jlv_iinc hdg hk (show iI x + Int32.ofInt n = iI z from (iI_add x n).trans (by rw [hz])) hn hl kk
theorem ji_bipush {n : Int} (hv : (Int8.ofInt n).toInt32 = iI n) (hdg : decode M.1 pc = .ok (.bipush n, 2)) (k : jT M l G d C Q X Φ (pc + 2) lv (.int (iI n) :: rest) b) : jT M l G d C Q X Φ pc lv (rest) b := jlv_bipush hdg hv k
theorem ji_eqi {x y : Int} (h : x = y) (k : jT M l G d C Q X Φ pc lv (.int (iI y) :: rest) b) : jT M l G d C Q X Φ pc lv (.int (iI x) :: rest) b := by rw [h]; exact k
theorem ji_icmp_eq {x y : Int} {off : Int} (tgt : Nat) (hx : -2147483648 ≤ x ∧ x ≤ 2147483647) (hy : -2147483648 ≤ y ∧ y ≤ 2147483647) (hdg : decode M.1 pc = .ok (.if_icmp .eq off, 3)) (ht : (pc : Int) + off = (tgt : Int)) (kt : x = y → jT M l G d C Q X Φ tgt lv rest b) (kf : ¬ x = y → jT M l G d C Q X Φ (pc + 3) lv rest b) : jT M l G d C Q X Φ pc lv (.int (iI y) :: .int (iI x) :: rest) b := jlv_icmp_eq hdg ht (fun q => kt ((iI_eq hx hy).mp q)) (fun q => kf (fun z => q ((iI_eq hx hy).mpr z)))
theorem ji_if_eq {x : Int} {off : Int} (tgt : Nat) (hx : -2147483648 ≤ x ∧ x ≤ 2147483647) (hdg : decode M.1 pc = .ok (.ifCond .eq off, 3)) (ht : (pc : Int) + off = (tgt : Int)) (kt : x = 0 → jT M l G d C Q X Φ tgt lv rest b) (kf : ¬ x = 0 → jT M l G d C Q X Φ (pc + 3) lv rest b) : jT M l G d C Q X Φ pc lv (.int (iI x) :: rest) b := jlv_if_eq hdg ht (fun q => kt ((iI_eq hx (by decide : -2147483648 ≤ (0 : Int) ∧ (0 : Int) ≤ 2147483647)).mp q)) (fun q => kf (fun z => q ((iI_eq hx (by decide : -2147483648 ≤ (0 : Int) ∧ (0 : Int) ≤ 2147483647)).mpr z)))
theorem ji_icmp_ne {x y : Int} {off : Int} (tgt : Nat) (hx : -2147483648 ≤ x ∧ x ≤ 2147483647) (hy : -2147483648 ≤ y ∧ y ≤ 2147483647) (hdg : decode M.1 pc = .ok (.if_icmp .ne off, 3)) (ht : (pc : Int) + off = (tgt : Int)) (kt : ¬ x = y → jT M l G d C Q X Φ tgt lv rest b) (kf : x = y → jT M l G d C Q X Φ (pc + 3) lv rest b) : jT M l G d C Q X Φ pc lv (.int (iI y) :: .int (iI x) :: rest) b := jlv_icmp_ne hdg ht (fun q => kt (fun z => q ((iI_eq hx hy).mpr z))) (fun q => kf ((iI_eq hx hy).mp q))
theorem ji_if_ne {x : Int} {off : Int} (tgt : Nat) (hx : -2147483648 ≤ x ∧ x ≤ 2147483647) (hdg : decode M.1 pc = .ok (.ifCond .ne off, 3)) (ht : (pc : Int) + off = (tgt : Int)) (kt : ¬ x = 0 → jT M l G d C Q X Φ tgt lv rest b) (kf : x = 0 → jT M l G d C Q X Φ (pc + 3) lv rest b) : jT M l G d C Q X Φ pc lv (.int (iI x) :: rest) b := jlv_if_ne hdg ht (fun q => kt (fun z => q ((iI_eq hx (by decide : -2147483648 ≤ (0 : Int) ∧ (0 : Int) ≤ 2147483647)).mpr z))) (fun q => kf ((iI_eq hx (by decide : -2147483648 ≤ (0 : Int) ∧ (0 : Int) ≤ 2147483647)).mp q))
theorem ji_icmp_lt {x y : Int} {off : Int} (tgt : Nat) (hx : -2147483648 ≤ x ∧ x ≤ 2147483647) (hy : -2147483648 ≤ y ∧ y ≤ 2147483647) (hdg : decode M.1 pc = .ok (.if_icmp .lt off, 3)) (ht : (pc : Int) + off = (tgt : Int)) (kt : x < y → jT M l G d C Q X Φ tgt lv rest b) (kf : y ≤ x → jT M l G d C Q X Φ (pc + 3) lv rest b) : jT M l G d C Q X Φ pc lv (.int (iI y) :: .int (iI x) :: rest) b := jlv_icmp_lt hdg ht (fun q => kt ((iI_lt hx hy).mp q)) (fun q => kf (Int.not_lt.mp fun z => q ((iI_lt hx hy).mpr z)))
theorem ji_if_lt {x : Int} {off : Int} (tgt : Nat) (hx : -2147483648 ≤ x ∧ x ≤ 2147483647) (hdg : decode M.1 pc = .ok (.ifCond .lt off, 3)) (ht : (pc : Int) + off = (tgt : Int)) (kt : x < 0 → jT M l G d C Q X Φ tgt lv rest b) (kf : 0 ≤ x → jT M l G d C Q X Φ (pc + 3) lv rest b) : jT M l G d C Q X Φ pc lv (.int (iI x) :: rest) b := jlv_if_lt hdg ht (fun q => kt ((iI_lt hx (by decide : -2147483648 ≤ (0 : Int) ∧ (0 : Int) ≤ 2147483647)).mp q)) (fun q => kf (Int.not_lt.mp fun z => q ((iI_lt hx (by decide : -2147483648 ≤ (0 : Int) ∧ (0 : Int) ≤ 2147483647)).mpr z)))
theorem ji_icmp_ge {x y : Int} {off : Int} (tgt : Nat) (hx : -2147483648 ≤ x ∧ x ≤ 2147483647) (hy : -2147483648 ≤ y ∧ y ≤ 2147483647) (hdg : decode M.1 pc = .ok (.if_icmp .ge off, 3)) (ht : (pc : Int) + off = (tgt : Int)) (kt : y ≤ x → jT M l G d C Q X Φ tgt lv rest b) (kf : x < y → jT M l G d C Q X Φ (pc + 3) lv rest b) : jT M l G d C Q X Φ pc lv (.int (iI y) :: .int (iI x) :: rest) b := jlv_icmp_ge hdg ht (fun q => kt ((iI_le hy hx).mp q)) (fun q => kf (Int.not_le.mp fun z => q ((iI_le hy hx).mpr z)))
theorem ji_if_ge {x : Int} {off : Int} (tgt : Nat) (hx : -2147483648 ≤ x ∧ x ≤ 2147483647) (hdg : decode M.1 pc = .ok (.ifCond .ge off, 3)) (ht : (pc : Int) + off = (tgt : Int)) (kt : 0 ≤ x → jT M l G d C Q X Φ tgt lv rest b) (kf : x < 0 → jT M l G d C Q X Φ (pc + 3) lv rest b) : jT M l G d C Q X Φ pc lv (.int (iI x) :: rest) b := jlv_if_ge hdg ht (fun q => kt ((iI_le (by decide : -2147483648 ≤ (0 : Int) ∧ (0 : Int) ≤ 2147483647) hx).mp q)) (fun q => kf (Int.not_le.mp fun z => q ((iI_le (by decide : -2147483648 ≤ (0 : Int) ∧ (0 : Int) ≤ 2147483647) hx).mpr z)))
theorem ji_icmp_gt {x y : Int} {off : Int} (tgt : Nat) (hx : -2147483648 ≤ x ∧ x ≤ 2147483647) (hy : -2147483648 ≤ y ∧ y ≤ 2147483647) (hdg : decode M.1 pc = .ok (.if_icmp .gt off, 3)) (ht : (pc : Int) + off = (tgt : Int)) (kt : y < x → jT M l G d C Q X Φ tgt lv rest b) (kf : x ≤ y → jT M l G d C Q X Φ (pc + 3) lv rest b) : jT M l G d C Q X Φ pc lv (.int (iI y) :: .int (iI x) :: rest) b := jlv_icmp_gt hdg ht (fun q => kt ((iI_lt hy hx).mp q)) (fun q => kf (Int.not_lt.mp fun z => q ((iI_lt hy hx).mpr z)))
theorem ji_if_gt {x : Int} {off : Int} (tgt : Nat) (hx : -2147483648 ≤ x ∧ x ≤ 2147483647) (hdg : decode M.1 pc = .ok (.ifCond .gt off, 3)) (ht : (pc : Int) + off = (tgt : Int)) (kt : 0 < x → jT M l G d C Q X Φ tgt lv rest b) (kf : x ≤ 0 → jT M l G d C Q X Φ (pc + 3) lv rest b) : jT M l G d C Q X Φ pc lv (.int (iI x) :: rest) b := jlv_if_gt hdg ht (fun q => kt ((iI_lt (by decide : -2147483648 ≤ (0 : Int) ∧ (0 : Int) ≤ 2147483647) hx).mp q)) (fun q => kf (Int.not_lt.mp fun z => q ((iI_lt (by decide : -2147483648 ≤ (0 : Int) ∧ (0 : Int) ≤ 2147483647) hx).mpr z)))
theorem ji_icmp_le {x y : Int} {off : Int} (tgt : Nat) (hx : -2147483648 ≤ x ∧ x ≤ 2147483647) (hy : -2147483648 ≤ y ∧ y ≤ 2147483647) (hdg : decode M.1 pc = .ok (.if_icmp .le off, 3)) (ht : (pc : Int) + off = (tgt : Int)) (kt : x ≤ y → jT M l G d C Q X Φ tgt lv rest b) (kf : y < x → jT M l G d C Q X Φ (pc + 3) lv rest b) : jT M l G d C Q X Φ pc lv (.int (iI y) :: .int (iI x) :: rest) b := jlv_icmp_le hdg ht (fun q => kt ((iI_le hx hy).mp q)) (fun q => kf (Int.not_le.mp fun z => q ((iI_le hx hy).mpr z)))
theorem ji_if_le {x : Int} {off : Int} (tgt : Nat) (hx : -2147483648 ≤ x ∧ x ≤ 2147483647) (hdg : decode M.1 pc = .ok (.ifCond .le off, 3)) (ht : (pc : Int) + off = (tgt : Int)) (kt : x ≤ 0 → jT M l G d C Q X Φ tgt lv rest b) (kf : 0 < x → jT M l G d C Q X Φ (pc + 3) lv rest b) : jT M l G d C Q X Φ pc lv (.int (iI x) :: rest) b := jlv_if_le hdg ht (fun q => kt ((iI_le hx (by decide : -2147483648 ≤ (0 : Int) ∧ (0 : Int) ≤ 2147483647)).mp q)) (fun q => kf (Int.not_le.mp fun z => q ((iI_le hx (by decide : -2147483648 ≤ (0 : Int) ∧ (0 : Int) ≤ 2147483647)).mpr z)))
theorem ji_bz_eq {p : Bool} {off : Int} (tgt : Nat) (hdg : decode M.1 pc = .ok (.ifCond .eq off, 3)) (ht : (pc : Int) + off = (tgt : Int)) (kt : p = false → jT M l G d C Q X Φ tgt lv rest b) (kf : p = true → jT M l G d C Q X Φ (pc + 3) lv rest b) : jT M l G d C Q X Φ pc lv (.int (jB p) :: rest) b :=
  jlv_if_eq hdg ht (fun q => kt (by cases p; rfl; exact absurd q (by decide))) (fun q => kf (by cases p; exact absurd rfl q; rfl))
theorem ji_bz_ne {p : Bool} {off : Int} (tgt : Nat) (hdg : decode M.1 pc = .ok (.ifCond .ne off, 3)) (ht : (pc : Int) + off = (tgt : Int)) (kt : p = true → jT M l G d C Q X Φ tgt lv rest b) (kf : p = false → jT M l G d C Q X Φ (pc + 3) lv rest b) : jT M l G d C Q X Φ pc lv (.int (jB p) :: rest) b :=
  jlv_if_ne hdg ht (fun q => kt (by cases p; exact absurd rfl q; rfl)) (fun q => kf (by cases p; rfl; exact absurd q (by decide)))
theorem ji_sipush {n : Int} (hv : (Int16.ofInt n).toInt32 = iI n) (hdg : decode M.1 pc = .ok (.sipush n, 3)) (k : jT M l G d C Q X Φ (pc + 3) lv (.int (iI n) :: rest) b) : jT M l G d C Q X Φ pc lv (rest) b := jlv_sipush hdg hv k
theorem ji_i2c {x : Int} (z : Int) (hz : x % 65536 = z) (hdg : decode M.1 pc = .ok (.i2c, 1)) (k : jT M l G d C Q X Φ (pc + 1) lv (.int (iI z) :: rest) b) : jT M l G d C Q X Φ pc lv (.int (iI x) :: rest) b := jlv_i2c hdg (by
  subst hz
  apply Int32.toInt_inj.mp
  rw [iI_toInt (by omega)]
  have h1 : ((iI x).toUInt32 % 65536).toNat = (x % 65536).toNat := by
    rw [UInt32.toNat_mod]
    have : (iI x).toUInt32.toNat = (x % 4294967296).toNat := by
      show (Int32.ofInt x).toBitVec.toNat = _
      show (BitVec.ofInt 32 x).toNat = _
      rw [BitVec.toNat_ofInt]; rfl
    rw [this]
    show (x % 4294967296).toNat % 65536 = _
    omega
  have h2 : (((iI x).toUInt32 % 65536).toInt32).toInt = (((iI x).toUInt32 % 65536).toNat : Int) := by
    show ((iI x).toUInt32 % 65536).toBitVec.toInt = _
    rw [BitVec.toInt_eq_toNat_of_lt]
    · rfl
    · show 2 * ((iI x).toUInt32 % 65536).toNat < 2 ^ 32
      rw [h1]; omega
  rw [h2, h1]; omega) k
end JI
