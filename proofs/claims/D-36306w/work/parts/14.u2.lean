set_option maxRecDepth 100000
theorem or_le {n m : Nat} (h1 : n ≤ 2147483647) (h2 : m ≤ 2147483647) : n ||| m ≤ 2147483647 := by
  have := Nat.or_lt_two_pow (x := n) (y := m) (n := 31) (by omega) (by omega)
  omega
theorem iI_or {n m : Nat} (h1 : n ≤ 2147483647) (h2 : m ≤ 2147483647) : iI (n : Int) ||| iI (m : Int) = iI ((n ||| m : Nat) : Int) := by
  have h3 := or_le h1 h2
  apply Int32.toBitVec_inj.mp
  show BitVec.ofInt 32 (n : Int) ||| BitVec.ofInt 32 (m : Int) = BitVec.ofInt 32 ((n ||| m : Nat) : Int)
  rw [BitVec.ofInt_natCast, BitVec.ofInt_natCast, BitVec.ofInt_natCast]
  apply BitVec.eq_of_toNat_eq
  rw [BitVec.toNat_or, BitVec.toNat_ofNat, BitVec.toNat_ofNat, BitVec.toNat_ofNat, Nat.mod_eq_of_lt (by omega), Nat.mod_eq_of_lt (by omega), Nat.mod_eq_of_lt (by omega)]
theorem take_snoc {cs : List Nat} {k c : Nat} (h : cs[k]? = some c) : cs.take k ++ [c] = cs.take (k + 1) := by
  rw [List.take_succ, h]; rfl
def lt256 (cs : List Nat) : Bool := cs.all (fun c => decide (c < 256))
theorem lt256_yes {cs : List Nat} (h : ∀ c ∈ cs, c < 256) : lt256 cs = true := by unfold lt256; rw [List.all_eq_true]; exact fun c hc => decide_eq_true (h c hc)
theorem lt256_all {cs : List Nat} (h : lt256 cs = true) : ∀ c ∈ cs, c < 256 := by unfold lt256 at h; rw [List.all_eq_true] at h; exact fun c hc => of_decide_eq_true (h c hc)
theorem lt256_no {cs : List Nat} {c : Nat} (h : c ∈ cs) (hc : ¬ c < 256) : lt256 cs = false := by
  cases e : lt256 cs with
  | false => rfl
  | true => exact absurd (lt256_all e c h) hc
theorem u_all {cs : List Nat} {c : Nat} (h : ∀ x ∈ cs, x < 65536) (hc : c < 65536) : ∀ x ∈ cs ++ [c], x < 65536 := fun x hx => (List.mem_append.mp hx).elim (h x) (fun q => by rw [List.mem_singleton.mp q]; exact hc)
/-- a StringBuilder with room for sixteen letters, of one byte and of two bytes a letter -/
def OL (a : Nat) (cs : List Nat) : jP := jbun (fun x : Nat × List Value => (∀ c ∈ cs, c < 256) ∧ cs.length + x.2.length = 16 ∧ jfit x.2) (fun x => [ow a 1 [.ref x.1, .int (iI 0), .int (jB false), .int (iI (cs.length : Int))], oa x.1 0 (lb cs ++ x.2)])
theorem OL_fold {a v : Nat} {cs : List Nat} {junk L : List Value} {n : Int} (h1 : ∀ c ∈ cs, c < 256) (h2 : cs.length + junk.length = 16) (h4 : jfit junk) (hn : n = (cs.length : Int)) (hL : L = lb cs ++ junk) : ∀ h, jsl [ow a 1 [.ref v, .int (iI 0), .int (jB false), .int (iI n)], oa v 0 L] h → OL a cs h := fun h hh => by
  subst hn; subst hL
  exact ⟨(v, junk), ⟨h1, h2, h4⟩, hh⟩
def SU (a : Nat) (cs : List Nat) : jP := jbun (fun x : Nat × List Value => (∀ c ∈ cs, c < 65536) ∧ 2 * cs.length + x.2.length = 32 ∧ jfit x.2 ∧ ∃ c ∈ cs, 256 ≤ c) (fun x => [ow a 1 [.ref x.1, .int (iI 1), .int (jB false), .int (iI (cs.length : Int))], oa x.1 0 (lu cs ++ x.2)])
theorem SU_fold {a v : Nat} {cs : List Nat} {junk L : List Value} {n : Int} (h1 : ∀ c ∈ cs, c < 65536) (h2 : 2 * cs.length + junk.length = 32) (h4 : jfit junk) (h5 : ∃ c ∈ cs, 256 ≤ c) (hn : n = (cs.length : Int)) (hL : L = lu cs ++ junk) : ∀ h, jsl [ow a 1 [.ref v, .int (iI 1), .int (jB false), .int (iI n)], oa v 0 L] h → SU a cs h := fun h hh => by
  subst hn; subst hL
  exact ⟨(v, junk), ⟨h1, h2, h4, h5⟩, hh⟩
def OB (a : Nat) (cs : List Nat) : jP := if lt256 cs then OL a cs else SU a cs
theorem OB_l {a : Nat} {cs : List Nat} (h : lt256 cs = true) : OB a cs = OL a cs := by unfold OB; rw [if_pos h]
theorem OB_u {a : Nat} {cs : List Nat} (h : lt256 cs = false) : OB a cs = SU a cs := by unfold OB; rw [if_neg (by rw [h]; decide)]
theorem OB_has {a : Nat} {cs : List Nat} : jhas (OB a cs) a 1 := by
  unfold OB
  split
  · exact jhas_bun fun x _ => ⟨0, false, _, rfl⟩
  · exact jhas_bun fun x _ => ⟨0, false, _, rfl⟩
abbrev mJ15_checkFromIndexSize : jM := (cJ15_checkFromIndexSize, RJ15, 4, (Option.some FieldType.int), "checkFromIndexSize", none)
theorem oJ15_checkFromIndexSize : jcode yJ15_checkFromIndexSize mJ15_checkFromIndexSize := q553
theorem pJ15_checkFromIndexSize : jpar yJ15_checkFromIndexSize 4 := ⟨by decide +kernel, by decide +kernel, by decide +kernel⟩
theorem sp_checkFromSize (l : Launch) (G : jG) (x : Nat) (y : Nat) (n : Nat) (z : Value) (h : x + y ≤ n) (hn : n ≤ 2147483647) (hz : z = .null ∨ ∃ a, z = .ref a) : jS l G yJ15_checkFromIndexSize mJ15_checkFromIndexSize 1 [.int (iI (x : Int)), .int (iI (y : Int)), .int (iI (n : Int)), z] [] (0) (jret (fun v9 Ψ => v9 = some (.int (iI (x : Int))) ∧ Ψ = [])) := by
  refine jS_of (plainFor_of_name (by decide)) rfl rfl rfl (by rcases hz with rfl | ⟨_, rfl⟩ <;> exact Nat.le_of_ble_eq_true rfl) (fun X => ?_)
  show jT mJ15_checkFromIndexSize l G _ _ _ X [] 0 [(0, .int (iI (x : Int))), (1, .int (iI (y : Int))), (2, .int (iI (n : Int))), (3, z)] [] _
  have o1 := or_le (n := n) (m := x) (by omega) (by omega)
  have o2 := or_le (n := n ||| x) (m := y) (by omega) (by omega)
  refine jlv_iload_n dJ15_checkFromIndexSize_0 rfl 2 rfl ?_
  refine jlv_iload_n dJ15_checkFromIndexSize_1 rfl 0 rfl ?_
  refine jlv_ior dJ15_checkFromIndexSize_2 ?_
  rw [iI_or (n := n) (m := x) (by omega) (by omega)]
  refine jlv_iload_n dJ15_checkFromIndexSize_3 rfl 1 rfl ?_
  refine jlv_ior dJ15_checkFromIndexSize_4 ?_
  rw [iI_or (n := n ||| x) (m := y) (by omega) (by omega)]
  generalize ((n ||| x) ||| y) = w at o2 ⊢
  show jT mJ15_checkFromIndexSize l G _ _ _ X [] 5 [(0, .int (iI (x : Int))), (1, .int (iI (y : Int))), (2, .int (iI (n : Int))), (3, z)] [.int (iI (w : Int))] _
  refine ji_if_lt 15 (by omega) dJ15_checkFromIndexSize_5 (by decide) (fun h_88 => absurd h_88 (by omega)) (fun h_88 => ?_)
  refine jlv_iload_n dJ15_checkFromIndexSize_8 rfl 1 rfl ?_
  refine jlv_iload_n dJ15_checkFromIndexSize_9 rfl 2 rfl ?_
  refine jlv_iload_n dJ15_checkFromIndexSize_10 rfl 0 rfl ?_
  refine ji_isub ((n : Int) - (x : Int)) (by omega) dJ15_checkFromIndexSize_11 ?_
  refine ji_icmp_le 23 (by omega) (by omega) dJ15_checkFromIndexSize_12 (by decide) (fun h_89 => ?_) (fun h_89 => absurd h_89 (by omega))
  refine jlv_iload_n dJ15_checkFromIndexSize_23 rfl 0 rfl ?_
  exact jr_zret dJ15_checkFromIndexSize_24 rfl rfl (Ψ := []) ⟨rfl, rfl⟩ (js_pickP [] [] rfl trivial rfl)

abbrev mJ5_checkBoundsOffCount : jM := (cJ5_checkBoundsOffCount, RJ5, 3, (Option.some FieldType.int), "checkBoundsOffCount", none)
theorem oJ5_checkBoundsOffCount : jcode yJ5_checkBoundsOffCount mJ5_checkBoundsOffCount := q550
theorem pJ5_checkBoundsOffCount : jpar yJ5_checkBoundsOffCount 3 := ⟨by decide +kernel, by decide +kernel, by decide +kernel⟩
theorem sp_S_checkBO (l : Launch) (G : jG) (x : Nat) (y : Nat) (n : Nat) (h : x + y ≤ n) (hn : n ≤ 2147483647) : jS l G yJ5_checkBoundsOffCount mJ5_checkBoundsOffCount 2 [.int (iI (x : Int)), .int (iI (y : Int)), .int (iI (n : Int))] [] (0) (jret (fun v9 Ψ => v9 = some (.int (iI (x : Int))) ∧ Ψ = [])) := by
  refine jS_of (plainFor_of_name (by decide)) rfl rfl rfl (Nat.le_of_ble_eq_true rfl) (fun X => ?_)
  show jT mJ5_checkBoundsOffCount l G _ _ _ X [] 0 [(0, .int (iI (x : Int))), (1, .int (iI (y : Int))), (2, .int (iI (n : Int)))] [] _
  refine jr_g0 (fun hg0 => ?_)
  obtain ⟨gi, ⟨gea, hgea, hgea2⟩, ⟨gem, hgem, hgem2⟩, ⟨gpr, hgpr, hgpr2⟩, ⟨gic, gicad, hgic, hgic2, hgic3⟩, ⟨gcc, gccad, hgcc, hgcc2, hgcc3⟩, grf, gks⟩ := hg0
  have hz := grf 21 (by decide)
  refine jlv_iload_n dJ5_checkBoundsOffCount_0 rfl 0 rfl ?_
  refine jlv_iload_n dJ5_checkBoundsOffCount_1 rfl 1 rfl ?_
  refine jlv_iload_n dJ5_checkBoundsOffCount_2 rfl 2 rfl ?_
  refine jr_gets 21 rfl q503 dJ5_checkBoundsOffCount_3 ?_
  refine jr_callS [.int (iI (x : Int)), .int (iI (y : Int)), .int (iI (n : Int)), (jSV G 21)] (sp_checkFromSize l G x y n (jSV G 21) (h) (hn) (hz)) (rest := []) q551 q552 q94 oJ15_checkFromIndexSize pJ15_checkFromIndexSize (by decide) (by decide) (Nat.le_of_ble_eq_true rfl) [] [] rfl trivial (Φr := []) rfl (by first | omega | exact Nat.zero_le _) dJ5_checkBoundsOffCount_6 (fun v9 Ψ hq => ?_) (fun _ _ hq => hq.elim)
  obtain ⟨rfl, rfl⟩ := hq
  show jT mJ5_checkBoundsOffCount l G _ _ _ X [] 9 [(0, .int (iI (x : Int))), (1, .int (iI (y : Int))), (2, .int (iI (n : Int)))] [.int (iI (x : Int))] _
  exact jr_zret dJ5_checkBoundsOffCount_9 rfl rfl (Ψ := []) ⟨rfl, rfl⟩ (js_pickP [] [] rfl trivial rfl)

abbrev mJ6_checkBoundsOffCount : jM := (cJ6_checkBoundsOffCount, RJ6, 3, (Option.none : Option FieldType), "checkBoundsOffCount", none)
theorem oJ6_checkBoundsOffCount : jcode yJ6_checkBoundsOffCount mJ6_checkBoundsOffCount := q547
theorem pJ6_checkBoundsOffCount : jpar yJ6_checkBoundsOffCount 3 := ⟨by decide +kernel, by decide +kernel, by decide +kernel⟩
theorem sp_U_checkBO (l : Launch) (G : jG) (f : Bool) (v : Nat) (L : List Value) (x : Nat) (y : Nat) (h : x + y ≤ L.length / 2) (hL : L.length ≤ 2000000) : jS l G yJ6_checkBoundsOffCount mJ6_checkBoundsOffCount 3 [.int (iI (x : Int)), .int (iI (y : Int)), .ref v] [jA f v ((1, 0), L)] (0) (jret (fun v9 Ψ => v9 = none ∧ Ψ = [jA f v ((1, 0), L)])) := by
  refine jS_of (plainFor_of_name (by decide)) rfl rfl rfl (Nat.le_of_ble_eq_true rfl) (fun X => ?_)
  show jT mJ6_checkBoundsOffCount l G _ _ _ X [jA f v ((1, 0), L)] 0 [(0, .int (iI (x : Int))), (1, .int (iI (y : Int))), (2, .ref v)] [] _
  refine jlv_iload_n dJ6_checkBoundsOffCount_0 rfl 0 rfl ?_
  refine jlv_iload_n dJ6_checkBoundsOffCount_1 rfl 1 rfl ?_
  refine jlv_aload_n dJ6_checkBoundsOffCount_2 rfl 2 rfl ?_
  refine jr_callS [.ref v] (sp_U_length l G f v L (L.length / 2) (rfl) (hL)) (rest := [.int (iI (y : Int)), .int (iI (x : Int))]) q497 q498 q82 oJ6_length pJ6_length (by decide) (by decide) (Nat.le_of_ble_eq_true rfl) [0] [] rfl trivial (Φr := []) rfl (by first | omega | exact Nat.zero_le _) dJ6_checkBoundsOffCount_3 (fun v9 Ψ hq => ?_) (fun _ _ hq => hq.elim)
  obtain ⟨rfl, rfl⟩ := hq
  show jT mJ6_checkBoundsOffCount l G _ _ _ X [jA f v ((1, 0), L)] 6 [(0, .int (iI (x : Int))), (1, .int (iI (y : Int))), (2, .ref v)] [.int (iI ((L.length / 2 : Nat) : Int)), .int (iI (y : Int)), .int (iI (x : Int))] _
  refine jr_callS [.int (iI (x : Int)), .int (iI (y : Int)), .int (iI ((L.length / 2 : Nat) : Int))] (sp_S_checkBO l G x y (L.length / 2) (h) (by omega)) (rest := []) q548 q549 q81 oJ5_checkBoundsOffCount pJ5_checkBoundsOffCount (by decide) (by decide) (Nat.le_of_ble_eq_true rfl) [0] [] rfl trivial (Φr := [jA f v ((1, 0), L)]) rfl (by first | omega | exact Nat.zero_le _) dJ6_checkBoundsOffCount_6 (fun v9 Ψ hq => ?_) (fun _ _ hq => hq.elim)
  obtain ⟨rfl, rfl⟩ := hq
  show jT mJ6_checkBoundsOffCount l G _ _ _ X [jA f v ((1, 0), L)] 9 [(0, .int (iI (x : Int))), (1, .int (iI (y : Int))), (2, .ref v)] [.int (iI (x : Int))] _
  refine jlv_pop dJ6_checkBoundsOffCount_9 rfl ?_
  exact jr_vret dJ6_checkBoundsOffCount_10 rfl (Ψ := [jA f v ((1, 0), L)]) ⟨rfl, rfl⟩ (js_pickP [0] [] rfl trivial rfl)

abbrev mJ6_inflate : jM := (cJ6_inflate, RJ6, 6, (Option.none : Option FieldType), "inflate", none)
theorem oJ6_inflate : jcode yJ6_inflate mJ6_inflate := q544
theorem pJ6_inflate : jpar yJ6_inflate 5 := ⟨by decide +kernel, by decide +kernel, by decide +kernel⟩
theorem sp_U_inflate (l : Launch) (G : jG) (f : Bool) (s : Nat) (cs : List Nat) (junk : List Value) (d : Nat) (N : Nat) (hb : ∀ c ∈ cs, c < 256) (hN : cs.length ≤ N) (hm : N ≤ 400000) : jS l G yJ6_inflate mJ6_inflate 4 [.ref s, .int (iI 0), .ref d, .int (iI 0), .int (iI (cs.length : Int))] [jA f s ((1, 0), (lb cs ++ junk)), oa d 0 (List.replicate (2 * N) (.int (iI 0)))] (0) (jret (fun v9 Ψ => v9 = none ∧ Ψ = [jA f s ((1, 0), (lb cs ++ junk)), oa d 0 (lu cs ++ List.replicate (2 * N - 2 * cs.length) (.int (iI 0)))])) := by
  refine jS_of (plainFor_of_name (by decide)) rfl rfl rfl (Nat.le_of_ble_eq_true rfl) (fun X => ?_)
  show jT mJ6_inflate l G _ _ _ X [jA f s ((1, 0), (lb cs ++ junk)), oa d 0 (List.replicate (2 * N) (.int (iI 0)))] 0 [(0, .ref s), (1, .int (iI 0)), (2, .ref d), (3, .int (iI 0)), (4, .int (iI (cs.length : Int)))] [] _
  refine jlv_iload_n dJ6_inflate_0 rfl 3 rfl ?_
  refine jlv_iload dJ6_inflate_1 4 rfl ?_
  refine jlv_aload_n dJ6_inflate_3 rfl 2 rfl ?_
  refine jt_eq (st' := [.ref d, .int (iI (cs.length : Int)), .int (iI 0)]) (lv' := [(0, .ref s), (1, .int (iI 0)), (2, .ref d), (3, .int (iI 0)), (4, .int (iI (cs.length : Int)))]) (by first | rfl | rw [show 0 = 0 by omega]) rfl ?_
  refine jr_callS [.int (iI 0), .int (iI (cs.length : Int)), .ref d] (sp_U_checkBO l G false d (List.replicate (2 * N) (.int (iI 0))) 0 cs.length (by rw [List.length_replicate]; omega) (by rw [List.length_replicate]; omega)) (rest := []) q545 q546 q82 oJ6_checkBoundsOffCount pJ6_checkBoundsOffCount (by decide) (by decide) (Nat.le_of_ble_eq_true rfl) [1, 0] [] rfl trivial (Φr := [jA f s ((1, 0), (lb cs ++ junk))]) rfl (by first | omega | exact Nat.zero_le _) dJ6_inflate_4 (fun v9 Ψ hq => ?_) (fun _ _ hq => hq.elim)
  obtain ⟨rfl, rfl⟩ := hq
  show jT mJ6_inflate l G _ _ _ X [oa d 0 (List.replicate (2 * N) (.int (iI 0))), jA f s ((1, 0), (lb cs ++ junk))] 7 [(0, .ref s), (1, .int (iI 0)), (2, .ref d), (3, .int (iI 0)), (4, .int (iI (cs.length : Int)))] [] _
  refine jlv_iconst (v := iI 0) dJ6_inflate_7 rfl ?_
  refine jlv_istore (lv' := [(5, .int (iI 0)), (0, .ref s), (1, .int (iI 0)), (2, .ref d), (3, .int (iI 0)), (4, .int (iI (cs.length : Int)))]) dJ6_inflate_8 (by decide) rfl ?_
  have loop_90 : ∀ (k_92 : Nat) (k : Nat) (bb : Nat), cs.length - k < k_92 → (k ≤ cs.length) → jT mJ6_inflate l G 4 (0) (jret (fun v9 Ψ => v9 = none ∧ Ψ = [jA f s ((1, 0), (lb cs ++ junk)), oa d 0 (lu cs ++ List.replicate (2 * N - 2 * cs.length) (.int (iI 0)))])) X [jA f s ((1, 0), (lb cs ++ junk)), oa d 0 (lu (cs.take k) ++ (List.replicate (2 * N - 2 * k) (.int (iI 0))))] 10 [(5, .int (iI (k : Int))), (4, .int (iI (cs.length : Int))), (3, .int (iI (k : Int))), (2, .ref d), (1, .int (iI (k : Int))), (0, .ref s)] [] bb := by
    intro k_92
    induction k_92 with
    | zero =>
      intro k bb hm
      exact absurd hm (Nat.not_lt_zero _)
    | succ k_92 ih_91 =>
      intro k bb hm hk
      refine jlv_iload dJ6_inflate_10 0 rfl ?_
      refine jlv_iload dJ6_inflate_12 1 rfl ?_
      refine ji_icmp_ge 41 (by omega) (by omega) dJ6_inflate_14 (by decide) (fun h_93 => ?_) (fun h_93 => ?_)
      · skip
        have hkk : k = cs.length := by omega
        refine jt_same 1 (P := oa d 0 (lu (cs.take k) ++ (List.replicate (2 * N - 2 * k) (.int (iI 0))))) (P' := oa d 0 (lu cs ++ List.replicate (2 * N - 2 * cs.length) (.int (iI 0)))) rfl (by rw [hkk, List.take_length]) (Φ' := [jA f s ((1, 0), (lb cs ++ junk)), oa d 0 (lu cs ++ List.replicate (2 * N - 2 * cs.length) (.int (iI 0)))]) rfl ?_
        exact jr_vret dJ6_inflate_41 rfl (Ψ := [jA f s ((1, 0), (lb cs ++ junk)), oa d 0 (lu cs ++ List.replicate (2 * N - 2 * cs.length) (.int (iI 0)))]) ⟨rfl, rfl⟩ (js_pickP [0, 1] [] rfl trivial rfl)
      · skip
        obtain ⟨c, hc⟩ := l_get (show k < cs.length by omega)
        have hc1 := hb c (l_mem hc)
        have htk : (cs.take k).length = k := by rw [List.length_take]; omega
        refine jlv_aload_n dJ6_inflate_17 rfl 3 rfl ?_
        refine jlv_iload_n dJ6_inflate_18 rfl 2 rfl ?_
        refine ji_iinc (lv' := [(3, .int (iI ((k : Int) + 1))), (5, .int (iI (k : Int))), (4, .int (iI (cs.length : Int))), (2, .ref d), (1, .int (iI (k : Int))), (0, .ref s)]) ((k : Int) + 1) (by omega) dJ6_inflate_19 2 rfl (by decide) rfl ?_
        refine jlv_aload_n dJ6_inflate_22 rfl 5 rfl ?_
        refine jlv_iload_n dJ6_inflate_23 rfl 4 rfl ?_
        refine ji_iinc (lv' := [(1, .int (iI ((k : Int) + 1))), (3, .int (iI ((k : Int) + 1))), (5, .int (iI (k : Int))), (4, .int (iI (cs.length : Int))), (2, .ref d), (0, .ref s)]) ((k : Int) + 1) (by omega) dJ6_inflate_24 4 rfl (by decide) rfl ?_
        refine jr_bald 0 rfl (n := k) (iI_eqn (by omega) (by omega)) (v := .int (iI (sb c))) (by rw [List.getElem?_append_left (by rw [lb_len]; omega)]; exact lb_at hc) dJ6_inflate_27 ?_
        refine ji_sipush (by decide) dJ6_inflate_28 ?_
        refine jlv_iand dJ6_inflate_31 ?_
        rw [sb_and (c) hc1]
        refine jt_eq (st' := [.int (iI (c : Int)), .int (iI ((cs.take k).length : Int)), .ref d]) (lv' := [(1, .int (iI ((k : Int) + 1))), (3, .int (iI ((k : Int) + 1))), (5, .int (iI (k : Int))), (4, .int (iI (cs.length : Int))), (2, .ref d), (0, .ref s)]) (by first | rfl | rw [show (k : Int) = ((cs.take k).length : Int) by omega]) rfl ?_
        refine jr_callS [.ref d, .int (iI ((cs.take k).length : Int)), .int (iI (c : Int))] (sp_U_putChar l G d (cs.take k) (List.replicate (2 * N - 2 * k) (.int (iI 0))) c (by omega) (by rw [List.length_replicate]; omega) (by rw [List.length_replicate]; omega)) (rest := []) q508 q509 q82 oJ6_putChar pJ6_putChar (by decide) (by decide) (Nat.le_of_ble_eq_true rfl) [1, 0] [] rfl trivial (Φr := [jA f s ((1, 0), (lb cs ++ junk))]) rfl (by first | omega | exact Nat.zero_le _) dJ6_inflate_32 (fun v9 Ψ hq => ?_) (fun _ _ hq => hq.elim)
        obtain ⟨rfl, rfl⟩ := hq
        show jT mJ6_inflate l G _ _ _ X [oa d 0 (lu ((cs.take k) ++ [c]) ++ (List.replicate (2 * N - 2 * k) (.int (iI 0))).drop 2), jA f s ((1, 0), (lb cs ++ junk))] 35 [(1, .int (iI ((k : Int) + 1))), (3, .int (iI ((k : Int) + 1))), (5, .int (iI (k : Int))), (4, .int (iI (cs.length : Int))), (2, .ref d), (0, .ref s)] [] _
        refine jt_same 0 (P := oa d 0 (lu ((cs.take k) ++ [c]) ++ (List.replicate (2 * N - 2 * k) (.int (iI 0))).drop 2)) (P' := oa d 0 (lu (cs.take (k + 1)) ++ (List.replicate (2 * N - 2 * (k + 1)) (.int (iI 0))))) rfl (by rw [take_snoc hc, List.drop_replicate, show 2 * N - 2 * k - 2 = 2 * N - 2 * (k + 1) by omega]) (Φ' := [oa d 0 (lu (cs.take (k + 1)) ++ (List.replicate (2 * N - 2 * (k + 1)) (.int (iI 0)))), jA f s ((1, 0), (lb cs ++ junk))]) rfl ?_
        refine ji_iinc (lv' := [(5, .int (iI ((k : Int) + 1))), (1, .int (iI ((k : Int) + 1))), (3, .int (iI ((k : Int) + 1))), (4, .int (iI (cs.length : Int))), (2, .ref d), (0, .ref s)]) ((k : Int) + 1) (by omega) dJ6_inflate_35 2 rfl (by decide) rfl ?_
        refine jlv_goto (tgt := 10) dJ6_inflate_38 (by decide) ?_
        refine jt_pickP [1, 0] [] rfl trivial (Φ' := [jA f s ((1, 0), (lb cs ++ junk)), oa d 0 (lu (cs.take (k + 1)) ++ (List.replicate (2 * N - 2 * (k + 1)) (.int (iI 0))))]) rfl ?_
        refine jt_lv [0, 3, 2, 4, 1, 5] (lv' := [(5, .int (iI ((k : Int) + 1))), (4, .int (iI (cs.length : Int))), (3, .int (iI ((k : Int) + 1))), (2, .ref d), (1, .int (iI ((k : Int) + 1))), (0, .ref s)]) rfl ?_
        exact ih_91 (k + 1) _ (by omega) (by omega)
  refine jt_same 0 (P := oa d 0 (List.replicate (2 * N) (.int (iI 0)))) (P' := oa d 0 (lu (cs.take 0) ++ (List.replicate (2 * N - 2 * 0) (.int (iI 0))))) rfl (rfl) (Φ' := [oa d 0 (lu (cs.take 0) ++ (List.replicate (2 * N - 2 * 0) (.int (iI 0)))), jA f s ((1, 0), (lb cs ++ junk))]) rfl ?_
  refine jt_pickP [1, 0] [] rfl trivial (Φ' := [jA f s ((1, 0), (lb cs ++ junk)), oa d 0 (lu (cs.take 0) ++ (List.replicate (2 * N - 2 * 0) (.int (iI 0))))]) rfl ?_
  refine jt_lv [0, 5, 4, 3, 2, 1] (lv' := [(5, .int (iI 0)), (4, .int (iI (cs.length : Int))), (3, .int (iI 0)), (2, .ref d), (1, .int (iI 0)), (0, .ref s)]) rfl ?_
  exact loop_90 _ 0 _ (Nat.lt_succ_self _) (Nat.zero_le _)

abbrev mJ16_inflate : jM := (cJ16_inflate, RJ16, 5, (Option.none : Option FieldType), "inflate", none)
theorem oJ16_inflate : jcode yJ16_inflate mJ16_inflate := q541
theorem pJ16_inflate : jpar yJ16_inflate 5 := ⟨by decide +kernel, by decide +kernel, by decide +kernel⟩
theorem sp_L1_inflate (l : Launch) (G : jG) (f : Bool) (s : Nat) (cs : List Nat) (junk : List Value) (d : Nat) (N : Nat) (hb : ∀ c ∈ cs, c < 256) (hN : cs.length ≤ N) (hm : N ≤ 400000) : jS l G yJ16_inflate mJ16_inflate 5 [.ref s, .int (iI 0), .ref d, .int (iI 0), .int (iI (cs.length : Int))] [jA f s ((1, 0), (lb cs ++ junk)), oa d 0 (List.replicate (2 * N) (.int (iI 0)))] (0) (jret (fun v9 Ψ => v9 = none ∧ Ψ = [jA f s ((1, 0), (lb cs ++ junk)), oa d 0 (lu cs ++ List.replicate (2 * N - 2 * cs.length) (.int (iI 0)))])) := by
  refine jS_of (plainFor_of_name (by decide)) rfl rfl rfl (Nat.le_of_ble_eq_true rfl) (fun X => ?_)
  show jT mJ16_inflate l G _ _ _ X [jA f s ((1, 0), (lb cs ++ junk)), oa d 0 (List.replicate (2 * N) (.int (iI 0)))] 0 [(0, .ref s), (1, .int (iI 0)), (2, .ref d), (3, .int (iI 0)), (4, .int (iI (cs.length : Int)))] [] _
  refine jlv_aload_n dJ16_inflate_0 rfl 0 rfl ?_
  refine jlv_iload_n dJ16_inflate_1 rfl 1 rfl ?_
  refine jlv_aload_n dJ16_inflate_2 rfl 2 rfl ?_
  refine jlv_iload_n dJ16_inflate_3 rfl 3 rfl ?_
  refine jlv_iload dJ16_inflate_4 4 rfl ?_
  refine jr_callS [.ref s, .int (iI 0), .ref d, .int (iI 0), .int (iI (cs.length : Int))] (sp_U_inflate l G f s cs junk d N (hb) (hN) (hm)) (rest := []) q542 q543 q82 oJ6_inflate pJ6_inflate (by decide) (by decide) (Nat.le_of_ble_eq_true rfl) [0, 1] [] rfl trivial (Φr := []) rfl (by first | omega | exact Nat.zero_le _) dJ16_inflate_6 (fun v9 Ψ hq => ?_) (fun _ _ hq => hq.elim)
  obtain ⟨rfl, rfl⟩ := hq
  show jT mJ16_inflate l G _ _ _ X [jA f s ((1, 0), (lb cs ++ junk)), oa d 0 (lu cs ++ List.replicate (2 * N - 2 * cs.length) (.int (iI 0)))] 9 [(0, .ref s), (1, .int (iI 0)), (2, .ref d), (3, .int (iI 0)), (4, .int (iI (cs.length : Int)))] [] _
  exact jr_vret dJ16_inflate_9 rfl (Ψ := [jA f s ((1, 0), (lb cs ++ junk)), oa d 0 (lu cs ++ List.replicate (2 * N - 2 * cs.length) (.int (iI 0)))]) ⟨rfl, rfl⟩ (js_pickP [0, 1] [] rfl trivial rfl)

theorem sp_ASB_ensure0 (l : Launch) (G : jG) (a : Nat) (v : Nat) (m : Int32) (z : Int32) (L : List Value) (n : Nat) (hL : L.length = 16) (hn : n ≤ 16) : jS l G yJ3_ensureCapacityInternal mJ3_ensureCapacityInternal 3 [.ref a, .int (iI (n : Int))] [ow a 1 [.ref v, .int (iI 0), .int m, .int z], oa v 0 L] (0) (jret (fun v9 Ψ => v9 = none ∧ Ψ = [ow a 1 [.ref v, .int (iI 0), .int m, .int z], oa v 0 L])) := by
  refine jS_of (plainFor_of_name (by decide)) rfl rfl rfl (Nat.le_of_ble_eq_true rfl) (fun X => ?_)
  show jT mJ3_ensureCapacityInternal l G _ _ _ X [ow a 1 [.ref v, .int (iI 0), .int m, .int z], oa v 0 L] 0 [(0, .ref a), (1, .int (iI (n : Int)))] [] _
  refine jlv_aload_n dJ3_ensureCapacityInternal_0 rfl 0 rfl ?_
  refine jr_get 0 rfl rfl 0 q218 (Or.inl rfl) rfl dJ3_ensureCapacityInternal_1 ?_
  refine jr_alen 1 rfl (ty := .byte) rfl dJ3_ensureCapacityInternal_4 (n := iI (L.length : Int)) (by rw [show _ = _ from (rfl : L.length = _)]; rfl) ?_
  refine jlv_aload_n dJ3_ensureCapacityInternal_5 rfl 0 rfl ?_
  refine jr_get 0 rfl rfl 1 q219 (Or.inl rfl) rfl dJ3_ensureCapacityInternal_6 ?_
  refine jlv_ishr dJ3_ensureCapacityInternal_9 ?_
  rw [iI_shr0]
  refine jlv_istore_n (lv' := [(2, .int (iI (L.length : Int))), (0, .ref a), (1, .int (iI (n : Int)))]) dJ3_ensureCapacityInternal_10 rfl (by decide) rfl ?_
  refine jlv_iload_n dJ3_ensureCapacityInternal_11 rfl 2 rfl ?_
  refine jlv_iload_n dJ3_ensureCapacityInternal_12 rfl 0 rfl ?_
  refine ji_isub ((n : Int) - (L.length : Int)) (by omega) dJ3_ensureCapacityInternal_13 ?_
  refine ji_if_le 38 (by omega) dJ3_ensureCapacityInternal_14 (by decide) (fun h_94 => ?_) (fun h_94 => absurd h_94 (by omega))
  exact jr_vret dJ3_ensureCapacityInternal_38 rfl (Ψ := [ow a 1 [.ref v, .int (iI 0), .int m, .int z], oa v 0 L]) ⟨rfl, rfl⟩ (js_pickP [0, 1] [] rfl trivial rfl)

theorem sp_ASB_ensure1 (l : Launch) (G : jG) (a : Nat) (v : Nat) (m : Int32) (z : Int32) (L : List Value) (n : Nat) (hL : L.length = 32) (hn : n ≤ 16) : jS l G yJ3_ensureCapacityInternal mJ3_ensureCapacityInternal 3 [.ref a, .int (iI (n : Int))] [ow a 1 [.ref v, .int (iI 1), .int m, .int z], oa v 0 L] (0) (jret (fun v9 Ψ => v9 = none ∧ Ψ = [ow a 1 [.ref v, .int (iI 1), .int m, .int z], oa v 0 L])) := by
  refine jS_of (plainFor_of_name (by decide)) rfl rfl rfl (Nat.le_of_ble_eq_true rfl) (fun X => ?_)
  show jT mJ3_ensureCapacityInternal l G _ _ _ X [ow a 1 [.ref v, .int (iI 1), .int m, .int z], oa v 0 L] 0 [(0, .ref a), (1, .int (iI (n : Int)))] [] _
  refine jlv_aload_n dJ3_ensureCapacityInternal_0 rfl 0 rfl ?_
  refine jr_get 0 rfl rfl 0 q218 (Or.inl rfl) rfl dJ3_ensureCapacityInternal_1 ?_
  refine jr_alen 1 rfl (ty := .byte) rfl dJ3_ensureCapacityInternal_4 (n := iI (L.length : Int)) (by rw [show _ = _ from (rfl : L.length = _)]; rfl) ?_
  refine jlv_aload_n dJ3_ensureCapacityInternal_5 rfl 0 rfl ?_
  refine jr_get 0 rfl rfl 1 q219 (Or.inl rfl) rfl dJ3_ensureCapacityInternal_6 ?_
  refine jlv_ishr dJ3_ensureCapacityInternal_9 ?_
  rw [iI_shr1 (n := L.length) (by omega)]
  refine jlv_istore_n (lv' := [(2, .int (iI ((L.length / 2 : Nat) : Int))), (0, .ref a), (1, .int (iI (n : Int)))]) dJ3_ensureCapacityInternal_10 rfl (by decide) rfl ?_
  refine jlv_iload_n dJ3_ensureCapacityInternal_11 rfl 2 rfl ?_
  refine jlv_iload_n dJ3_ensureCapacityInternal_12 rfl 0 rfl ?_
  refine ji_isub ((n : Int) - ((L.length / 2 : Nat) : Int)) (by omega) dJ3_ensureCapacityInternal_13 ?_
  refine ji_if_le 38 (by omega) dJ3_ensureCapacityInternal_14 (by decide) (fun h_95 => ?_) (fun h_95 => absurd h_95 (by omega))
  exact jr_vret dJ3_ensureCapacityInternal_38 rfl (Ψ := [ow a 1 [.ref v, .int (iI 1), .int m, .int z], oa v 0 L]) ⟨rfl, rfl⟩ (js_pickP [0, 1] [] rfl trivial rfl)

theorem sp_ASB_isLatin1U (l : Launch) (G : jG) (a : Nat) (v : Nat) (m : Int32) (n : Int32) : jS l G yJ3_isLatin1 mJ3_isLatin1 1 [.ref a] [ow a 1 [.ref v, .int (iI 1), .int m, .int n]] (0) (jret (fun v9 Ψ => v9 = some (.int (iI 0)) ∧ Ψ = [ow a 1 [.ref v, .int (iI 1), .int m, .int n]])) := by
  refine jS_of (plainFor_of_name (by decide)) rfl rfl rfl (Nat.le_of_ble_eq_true rfl) (fun X => ?_)
  show jT mJ3_isLatin1 l G _ _ _ X [ow a 1 [.ref v, .int (iI 1), .int m, .int n]] 0 [(0, .ref a)] [] _
  refine jr_g0 (fun hg0 => ?_)
  obtain ⟨gi, ⟨gea, hgea, hgea2⟩, ⟨gem, hgem, hgem2⟩, ⟨gpr, hgpr, hgpr2⟩, ⟨gic, gicad, hgic, hgic2, hgic3⟩, ⟨gcc, gccad, hgcc, hgcc2, hgcc3⟩, grf, gks⟩ := hg0
  refine jr_getsV 3 rfl q209 (v := .int (iI 1)) (gi (3, 1) (List.mem_of_getElem? (i := 0) rfl)) dJ3_isLatin1_0 ?_
  refine ji_if_eq 17 (by decide) dJ3_isLatin1_3 (by decide) (fun h_96 => absurd h_96 (by decide)) (fun h_96 => ?_)
  refine jlv_aload_n dJ3_isLatin1_6 rfl 0 rfl ?_
  refine jr_get 0 rfl rfl 1 q219 (Or.inl rfl) rfl dJ3_isLatin1_7 ?_
  refine ji_if_ne 17 (by decide) dJ3_isLatin1_10 (by decide) (fun h_97 => ?_) (fun h_97 => absurd h_97 (by decide))
  refine jlv_iconst (v := iI 0) dJ3_isLatin1_17 rfl ?_
  exact jr_zret dJ3_isLatin1_18 rfl rfl (Ψ := [ow a 1 [.ref v, .int (iI 1), .int m, .int n]]) ⟨rfl, rfl⟩ (js_pickP [0] [] rfl trivial rfl)

abbrev mJ3_inflate : jM := (cJ3_inflate, RJ3, 2, (Option.none : Option FieldType), "inflate", none)
theorem oJ3_inflate : jcode yJ3_inflate mJ3_inflate := q538
theorem pJ3_inflate : jpar yJ3_inflate 0 := ⟨by decide +kernel, by decide +kernel, by decide +kernel⟩
theorem sp_ASB_inflate (l : Launch) (G : jG) (a : Nat) (v : Nat) (cs : List Nat) (junk : List Value) (hb : ∀ c ∈ cs, c < 256) (hl : cs.length + junk.length = 16) : jS l G yJ3_inflate mJ3_inflate 6 [.ref a] [ow a 1 [.ref v, .int (iI 0), .int (jB false), .int (iI (cs.length : Int))], oa v 0 (lb cs ++ junk)] (9) (jret (fun v9 Ψ => ∃ w : Nat, v9 = none ∧ Ψ = [ow a 1 [.ref w, .int (iI 1), .int (jB false), .int (iI (cs.length : Int))], oa w 0 (lu cs ++ (List.replicate (32 - 2 * cs.length) (.int (iI 0))))])) := by
  refine jS_of (plainFor_of_name (by decide)) rfl rfl rfl (Nat.le_of_ble_eq_true rfl) (fun X => ?_)
  show jT mJ3_inflate l G _ _ _ X [ow a 1 [.ref v, .int (iI 0), .int (jB false), .int (iI (cs.length : Int))], oa v 0 (lb cs ++ junk)] 0 [(0, .ref a)] [] _
  refine jlv_aload_n dJ3_inflate_0 rfl 0 rfl ?_
  refine jr_callU (x := ⟨"java/lang/AbstractStringBuilder", "isLatin1", "()Z"⟩) (owner := "java/lang/AbstractStringBuilder") [] (sp_ASB_isLatin1R l G a v (jB false) (iI (cs.length : Int))) (rest := []) rfl 0 rfl rfl rfl q486 q488 q487 q489 q79 oJ3_isLatin1 pJ3_isLatin1 (by decide) (by decide) (Nat.le_of_ble_eq_true rfl) [0, 1] [] rfl trivial (Φr := [oa v 0 (lb cs ++ junk)]) rfl (by first | omega | exact Nat.zero_le _) dJ3_inflate_1 (fun v9 Ψ hq => ?_) (fun _ _ hq => hq.elim)
  obtain ⟨rfl, rfl⟩ := hq
  show jT mJ3_inflate l G _ _ _ X [ow a 1 [.ref v, .int (iI 0), .int (jB false), .int (iI (cs.length : Int))], oa v 0 (lb cs ++ junk)] 4 [(0, .ref a)] [.int (iI 1)] _
  refine ji_if_ne 8 (by decide) dJ3_inflate_4 (by decide) (fun h_98 => ?_) (fun h_98 => absurd h_98 (by decide))
  refine jlv_aload_n dJ3_inflate_8 rfl 0 rfl ?_
  refine jr_get 0 rfl rfl 0 q218 (Or.inl rfl) rfl dJ3_inflate_9 ?_
  refine jr_alen 1 rfl (ty := .byte) rfl dJ3_inflate_12 (n := iI 16) (by rw [show _ = _ from (show (lb cs ++ junk).length = 16 by rw [sb_len]; exact hl)]; rfl) ?_
  refine jr_callS [.int (iI 16)] (sp_U_newFor l G 16 (by decide)) (rest := []) q211 q212 q82 oJ6_newBytesFor pJ6_newBytesFor (by decide) (by decide) (Nat.le_of_ble_eq_true rfl) [0, 1] [] rfl trivial (Φr := [ow a 1 [.ref v, .int (iI 0), .int (jB false), .int (iI (cs.length : Int))], oa v 0 (lb cs ++ junk)]) rfl (by first | omega | exact Nat.zero_le _) dJ3_inflate_13 (fun v9 Ψ hq => ?_) (fun _ _ hq => hq.elim)
  obtain ⟨w, rfl, rfl⟩ := hq
  show jT mJ3_inflate l G _ _ _ X [oa w 0 (List.replicate (2 * 16) (.int (iI 0))), ow a 1 [.ref v, .int (iI 0), .int (jB false), .int (iI (cs.length : Int))], oa v 0 (lb cs ++ junk)] 16 [(0, .ref a)] [.ref w] _
  refine jlv_astore_n (lv' := [(1, .ref w), (0, .ref a)]) dJ3_inflate_16 rfl (by decide) rfl ?_
  refine jlv_aload_n dJ3_inflate_17 rfl 1 rfl ?_
  refine jr_get 1 rfl rfl 0 q218 (Or.inl rfl) rfl dJ3_inflate_18 ?_
  refine jlv_iconst (v := iI 0) dJ3_inflate_21 rfl ?_
  refine jlv_aload_n dJ3_inflate_22 rfl 0 rfl ?_
  refine jlv_iconst (v := iI 0) dJ3_inflate_23 rfl ?_
  refine jlv_aload_n dJ3_inflate_24 rfl 1 rfl ?_
  refine jr_get 1 rfl rfl 3 q222 (Or.inl rfl) rfl dJ3_inflate_25 ?_
  refine jr_callS [.ref v, .int (iI 0), .ref w, .int (iI 0), .int (iI (cs.length : Int))] (sp_L1_inflate l G false v cs junk w 16 (hb) (by omega) (by decide)) (rest := []) q539 q540 q95 oJ16_inflate pJ16_inflate (by decide) (by decide) (Nat.le_of_ble_eq_true rfl) [2, 0, 1] [] rfl trivial (Φr := [ow a 1 [.ref v, .int (iI 0), .int (jB false), .int (iI (cs.length : Int))]]) rfl (by first | omega | exact Nat.zero_le _) dJ3_inflate_28 (fun v9 Ψ hq => ?_) (fun _ _ hq => hq.elim)
  obtain ⟨rfl, rfl⟩ := hq
  show jT mJ3_inflate l G _ _ _ X [oa v 0 (lb cs ++ junk), oa w 0 (lu cs ++ List.replicate (2 * 16 - 2 * cs.length) (.int (iI 0))), ow a 1 [.ref v, .int (iI 0), .int (jB false), .int (iI (cs.length : Int))]] 31 [(1, .ref w), (0, .ref a)] [] _
  refine jt_same 1 (P := oa w 0 (lu cs ++ List.replicate (2 * 16 - 2 * cs.length) (.int (iI 0)))) (P' := oa w 0 (lu cs ++ List.replicate (32 - 2 * cs.length) (.int (iI 0)))) rfl (rfl) (Φ' := [oa v 0 (lb cs ++ junk), oa w 0 (lu cs ++ List.replicate (32 - 2 * cs.length) (.int (iI 0))), ow a 1 [.ref v, .int (iI 0), .int (jB false), .int (iI (cs.length : Int))]]) rfl ?_
  refine jlv_aload_n dJ3_inflate_31 rfl 1 rfl ?_
  refine jlv_aload_n dJ3_inflate_32 rfl 0 rfl ?_
  refine jr_put 2 rfl rfl 0 q218 (Or.inl rfl) rfl rfl rfl rfl rfl dJ3_inflate_33 (Φ' := [oa v 0 (lb cs ++ junk), oa w 0 (lu cs ++ List.replicate (32 - 2 * cs.length) (.int (iI 0))), ow a 1 [.ref w, .int (iI 0), .int (jB false), .int (iI (cs.length : Int))]]) rfl ?_
  refine jlv_aload_n dJ3_inflate_36 rfl 1 rfl ?_
  refine jlv_iconst (v := iI 1) dJ3_inflate_37 rfl ?_
  refine jr_put 2 rfl rfl 1 q219 (Or.inl rfl) rfl rfl rfl rfl rfl dJ3_inflate_38 (Φ' := [oa v 0 (lb cs ++ junk), oa w 0 (lu cs ++ List.replicate (32 - 2 * cs.length) (.int (iI 0))), ow a 1 [.ref w, .int (iI 1), .int (jB false), .int (iI (cs.length : Int))]]) rfl ?_
  exact jr_vret dJ3_inflate_41 rfl (Ψ := [ow a 1 [.ref w, .int (iI 1), .int (jB false), .int (iI (cs.length : Int))], oa w 0 (lu cs ++ (List.replicate (32 - 2 * cs.length) (.int (iI 0))))]) ⟨w, rfl, rfl⟩ (js_pickP [2, 1] [] rfl trivial rfl)

theorem sp_ASB_appendO (l : Launch) (G : jG) (a : Nat) (cs : List Nat) (c : Nat) (hc : c < 65536) (hl : cs.length < 16) : jS l G yJ3_append_3 mJ3_append_3 7 [.ref a, .int (iI (c : Int))] [OB a cs] (9) (jret (fun v9 Ψ => v9 = some (.ref a) ∧ Ψ = [OB a (cs ++ [c])])) := by
  refine jS_of (plainFor_of_name (by decide)) rfl rfl rfl (Nat.le_of_ble_eq_true rfl) (fun X => ?_)
  show jT mJ3_append_3 l G _ _ _ X [OB a cs] 0 [(0, .ref a), (1, .int (iI (c : Int)))] [] _
  by_cases hA : lt256 cs = true
  · skip
    refine jt_same 0 (P := OB a cs) (P' := OL a cs) rfl (OB_l hA) (Φ' := [OL a cs]) rfl ?_
    refine jt_open ?_
    rintro ⟨v, junk⟩ ⟨hb, hl2, hjf⟩
    try dsimp only at hb hl2 hjf
    show jT mJ3_append_3 l G _ _ _ X [ow a 1 [.ref v, .int (iI 0), .int (jB false), .int (iI (cs.length : Int))], oa v 0 (lb cs ++ junk)] 0 [(0, .ref a), (1, .int (iI (c : Int)))] [] _
    refine jlv_aload_n dJ3_append_3_0 rfl 0 rfl ?_
    refine jlv_aload_n dJ3_append_3_1 rfl 0 rfl ?_
    refine jr_get 0 rfl rfl 3 q222 (Or.inl rfl) rfl dJ3_append_3_2 ?_
    refine jlv_iconst (v := iI 1) dJ3_append_3_5 rfl ?_
    refine ji_iadd ((cs.length : Int) + 1) (by omega) dJ3_append_3_6 ?_
    refine jr_callU (x := ⟨"java/lang/AbstractStringBuilder", "ensureCapacityInternal", "(I)V"⟩) (owner := "java/lang/AbstractStringBuilder") [.int (iI ((cs.length : Int) + 1))] (sp_ASB_ensure0 l G a v (jB false) (iI (cs.length : Int)) (lb cs ++ junk) (cs.length + 1) (by rw [sb_len]; exact hl2) (by omega)) (rest := []) rfl 0 rfl rfl rfl q466 q4290 q468 (lw_g (lw_at lw_mx 1 rfl) rfl) q79 oJ3_ensureCapacityInternal pJ3_ensureCapacityInternal (by decide) (by decide) (Nat.le_of_ble_eq_true rfl) [0, 1] [] rfl trivial (Φr := []) rfl (by first | omega | exact Nat.zero_le _) dJ3_append_3_7 (fun v9 Ψ hq => ?_) (fun _ _ hq => hq.elim)
    obtain ⟨rfl, rfl⟩ := hq
    show jT mJ3_append_3 l G _ _ _ X [ow a 1 [.ref v, .int (iI 0), .int (jB false), .int (iI (cs.length : Int))], oa v 0 (lb cs ++ junk)] 10 [(0, .ref a), (1, .int (iI (c : Int)))] [] _
    refine jlv_aload_n dJ3_append_3_10 rfl 0 rfl ?_
    refine jr_callU (x := ⟨"java/lang/AbstractStringBuilder", "isLatin1", "()Z"⟩) (owner := "java/lang/AbstractStringBuilder") [] (sp_ASB_isLatin1R l G a v (jB false) (iI (cs.length : Int))) (rest := []) rfl 0 rfl rfl rfl q486 q488 q487 q489 q79 oJ3_isLatin1 pJ3_isLatin1 (by decide) (by decide) (Nat.le_of_ble_eq_true rfl) [0, 1] [] rfl trivial (Φr := [oa v 0 (lb cs ++ junk)]) rfl (by first | omega | exact Nat.zero_le _) dJ3_append_3_11 (fun v9 Ψ hq => ?_) (fun _ _ hq => hq.elim)
    obtain ⟨rfl, rfl⟩ := hq
    show jT mJ3_append_3 l G _ _ _ X [ow a 1 [.ref v, .int (iI 0), .int (jB false), .int (iI (cs.length : Int))], oa v 0 (lb cs ++ junk)] 14 [(0, .ref a), (1, .int (iI (c : Int)))] [.int (iI 1)] _
    refine ji_if_eq 45 (by decide) dJ3_append_3_14 (by decide) (fun h_99 => absurd h_99 (by decide)) (fun h_99 => ?_)
    refine jlv_iload_n dJ3_append_3_17 rfl 1 rfl ?_
    refine jr_callS [.int (iI (c : Int))] (sp_canEncodeC l G c (by omega)) (rest := []) q2242 q2243 q95 oJ16_canEncode_2 pJ16_canEncode_2 (by decide) (by decide) (Nat.le_of_ble_eq_true rfl) [0, 1] [] rfl trivial (Φr := [ow a 1 [.ref v, .int (iI 0), .int (jB false), .int (iI (cs.length : Int))], oa v 0 (lb cs ++ junk)]) rfl (by first | omega | exact Nat.zero_le _) dJ3_append_3_18 (fun v9 Ψ hq => ?_) (fun _ _ hq => hq.elim)
    obtain ⟨rfl, rfl⟩ := hq
    show jT mJ3_append_3 l G _ _ _ X [ow a 1 [.ref v, .int (iI 0), .int (jB false), .int (iI (cs.length : Int))], oa v 0 (lb cs ++ junk)] 21 [(0, .ref a), (1, .int (iI (c : Int)))] [.int (jB (decide (c < 256)))] _
    refine ji_bz_eq 45 dJ3_append_3_21 (by decide) (fun h_100 => ?_) (fun h_100 => ?_)
    · skip
      have hcb : ¬ c < 256 := by simpa using h_100
      refine jlv_aload_n dJ3_append_3_45 rfl 0 rfl ?_
      refine jr_callU (x := ⟨"java/lang/AbstractStringBuilder", "isLatin1", "()Z"⟩) (owner := "java/lang/AbstractStringBuilder") [] (sp_ASB_isLatin1R l G a v (jB false) (iI (cs.length : Int))) (rest := []) rfl 0 rfl rfl rfl q486 q488 q487 q489 q79 oJ3_isLatin1 pJ3_isLatin1 (by decide) (by decide) (Nat.le_of_ble_eq_true rfl) [0, 1] [] rfl trivial (Φr := [oa v 0 (lb cs ++ junk)]) rfl (by first | omega | exact Nat.zero_le _) dJ3_append_3_46 (fun v9 Ψ hq => ?_) (fun _ _ hq => hq.elim)
      obtain ⟨rfl, rfl⟩ := hq
      show jT mJ3_append_3 l G _ _ _ X [ow a 1 [.ref v, .int (iI 0), .int (jB false), .int (iI (cs.length : Int))], oa v 0 (lb cs ++ junk)] 49 [(0, .ref a), (1, .int (iI (c : Int)))] [.int (iI 1)] _
      refine ji_if_eq 56 (by decide) dJ3_append_3_49 (by decide) (fun h_101 => absurd h_101 (by decide)) (fun h_101 => ?_)
      refine jlv_aload_n dJ3_append_3_52 rfl 0 rfl ?_
      refine jr_callU (x := ⟨"java/lang/AbstractStringBuilder", "inflate", "()V"⟩) (owner := "java/lang/AbstractStringBuilder") [] (sp_ASB_inflate l G a v cs junk (hb) (hl2)) (rest := []) rfl 0 rfl rfl rfl q535 q4294 q537 (lw_g (lw_at lw_mx 5 rfl) rfl) q79 oJ3_inflate pJ3_inflate (by decide) (by decide) (Nat.le_of_ble_eq_true rfl) [0, 1] [] rfl trivial (Φr := []) rfl (by first | omega | exact Nat.zero_le _) dJ3_append_3_53 (fun v9 Ψ hq => ?_) (fun _ _ hq => hq.elim)
      obtain ⟨w, rfl, rfl⟩ := hq
      show jT mJ3_append_3 l G _ _ _ X [ow a 1 [.ref w, .int (iI 1), .int (jB false), .int (iI (cs.length : Int))], oa w 0 (lu cs ++ (List.replicate (32 - 2 * cs.length) (.int (iI 0))))] 56 [(0, .ref a), (1, .int (iI (c : Int)))] [] _
      have hjf := jfit_rep (32 - 2 * cs.length)
      have hrl : (List.replicate (32 - 2 * cs.length) (Value.int (iI 0))).length = 32 - 2 * cs.length := List.length_replicate
      refine jlv_aload_n dJ3_append_3_56 rfl 0 rfl ?_
      refine jr_get 0 rfl rfl 0 q218 (Or.inl rfl) rfl dJ3_append_3_57 ?_
      refine jlv_aload_n dJ3_append_3_60 rfl 0 rfl ?_
      refine jlv_dup dJ3_append_3_61 rfl ?_
      refine jr_get 0 rfl rfl 3 q222 (Or.inl rfl) rfl dJ3_append_3_62 ?_
      refine jlv_dup_x1 dJ3_append_3_65 rfl rfl ?_
      refine jlv_iconst (v := iI 1) dJ3_append_3_66 rfl ?_
      refine ji_iadd ((cs.length : Int) + 1) (by omega) dJ3_append_3_67 ?_
      refine jr_put 0 rfl rfl 3 q222 (Or.inl rfl) rfl rfl rfl rfl rfl dJ3_append_3_68 (Φ' := [ow a 1 [.ref w, .int (iI 1), .int (jB false), .int (iI ((cs.length : Int) + 1))], oa w 0 (lu cs ++ (List.replicate (32 - 2 * cs.length) (.int (iI 0))))]) rfl ?_
      refine jlv_iload_n dJ3_append_3_71 rfl 1 rfl ?_
      refine jr_callS [.ref w, .int (iI (cs.length : Int)), .int (iI (c : Int))] (sp_U_putCharSB l G w cs (List.replicate (32 - 2 * cs.length) (.int (iI 0))) c (hc) (by omega) (by omega)) (rest := []) q2245 q2246 q82 oJ6_putCharSB pJ6_putCharSB (by decide) (by decide) (Nat.le_of_ble_eq_true rfl) [1, 0] [] rfl trivial (Φr := [ow a 1 [.ref w, .int (iI 1), .int (jB false), .int (iI ((cs.length : Int) + 1))]]) rfl (by first | omega | exact Nat.zero_le _) dJ3_append_3_72 (fun v9 Ψ hq => ?_) (fun _ _ hq => hq.elim)
      obtain ⟨rfl, rfl⟩ := hq
      show jT mJ3_append_3 l G _ _ _ X [oa w 0 (lu (cs ++ [c]) ++ (List.replicate (32 - 2 * cs.length) (.int (iI 0))).drop 2), ow a 1 [.ref w, .int (iI 1), .int (jB false), .int (iI ((cs.length : Int) + 1))]] 75 [(0, .ref a), (1, .int (iI (c : Int)))] [] _
      refine jlv_aload_n dJ3_append_3_75 rfl 0 rfl ?_
      refine jt_pickP [1, 0] [] rfl trivial (Φ' := [ow a 1 [.ref w, .int (iI 1), .int (jB false), .int (iI ((cs.length : Int) + 1))], oa w 0 (lu (cs ++ [c]) ++ (List.replicate (32 - 2 * cs.length) (.int (iI 0))).drop 2)]) rfl ?_
      refine jt_fold (A := [ow a 1 [.ref w, .int (iI 1), .int (jB false), .int (iI ((cs.length : Int) + 1))], oa w 0 (lu (cs ++ [c]) ++ (List.replicate (32 - 2 * cs.length) (.int (iI 0))).drop 2)]) (P := SU a (cs ++ [c])) (SU_fold (u_all (fun x hx => by have := hb x hx; omega) hc) (junk := (List.replicate (32 - 2 * cs.length) (.int (iI 0))).drop 2) (by rw [List.length_append, List.length_drop, List.length_singleton]; omega) (jfit_drop 2 hjf) ⟨c, List.mem_append_right _ (List.mem_singleton.mpr rfl), by omega⟩ (by rw [List.length_append, List.length_singleton]; omega) rfl) ?_
      show jT mJ3_append_3 l G _ _ _ X [SU a (cs ++ [c])] 76 [(0, .ref a), (1, .int (iI (c : Int)))] [.ref a] _
      refine jt_same 0 (P := SU a (cs ++ [c])) (P' := OB a (cs ++ [c])) rfl ((OB_u (lt256_no (List.mem_append_right _ (List.mem_singleton.mpr rfl)) hcb)).symm) (Φ' := [OB a (cs ++ [c])]) rfl ?_
      exact jr_aret dJ3_append_3_76 rfl (Or.inl ⟨_, rfl⟩) (Or.inr ⟨_, rfl⟩) (Ψ := [OB a (cs ++ [c])]) ⟨rfl, rfl⟩ (js_pickP [0] [] rfl trivial rfl)
    · skip
      have hcs : c < 256 := by simpa using h_100
      refine jlv_aload_n dJ3_append_3_24 rfl 0 rfl ?_
      refine jr_get 0 rfl rfl 0 q218 (Or.inl rfl) rfl dJ3_append_3_25 ?_
      refine jlv_aload_n dJ3_append_3_28 rfl 0 rfl ?_
      refine jlv_dup dJ3_append_3_29 rfl ?_
      refine jr_get 0 rfl rfl 3 q222 (Or.inl rfl) rfl dJ3_append_3_30 ?_
      refine jlv_dup_x1 dJ3_append_3_33 rfl rfl ?_
      refine jlv_iconst (v := iI 1) dJ3_append_3_34 rfl ?_
      refine ji_iadd ((cs.length : Int) + 1) (by omega) dJ3_append_3_35 ?_
      refine jr_put 0 rfl rfl 3 q222 (Or.inl rfl) rfl rfl rfl rfl rfl dJ3_append_3_36 (Φ' := [ow a 1 [.ref v, .int (iI 0), .int (jB false), .int (iI ((cs.length : Int) + 1))], oa v 0 (lb cs ++ junk)]) rfl ?_
      refine jlv_iload_n dJ3_append_3_39 rfl 1 rfl ?_
      refine jlv_i2b (v := iI (sb c)) dJ3_append_3_40 (sb_i2b c hcs) ?_
      refine jr_bast 1 rfl (n := cs.length) (iI_eqn (by omega) (by omega)) (by rw [sb_len]; omega) (v := .int (iI (sb c))) (sb_nar c hcs) dJ3_append_3_41 (Φ' := [ow a 1 [.ref v, .int (iI 0), .int (jB false), .int (iI ((cs.length : Int) + 1))], oa v 0 ((lb cs ++ junk).set cs.length (.int (iI (sb c))))]) rfl ?_
      refine jlv_goto (tgt := 75) dJ3_append_3_42 (by decide) ?_
      refine jlv_aload_n dJ3_append_3_75 rfl 0 rfl ?_
      refine jt_pickP [0, 1] [] rfl trivial (Φ' := [ow a 1 [.ref v, .int (iI 0), .int (jB false), .int (iI ((cs.length : Int) + 1))], oa v 0 ((lb cs ++ junk).set cs.length (.int (iI (sb c))))]) rfl ?_
      refine jt_fold (A := [ow a 1 [.ref v, .int (iI 0), .int (jB false), .int (iI ((cs.length : Int) + 1))], oa v 0 ((lb cs ++ junk).set cs.length (.int (iI (sb c))))]) (P := OL a (cs ++ [c])) (OL_fold (sb_all hb hcs) (junk := junk.drop 1) (by rw [List.length_append, List.length_drop, List.length_singleton]; omega) (jfit_drop 1 hjf) (by rw [List.length_append, List.length_singleton]; omega) (sb_add (by omega))) ?_
      show jT mJ3_append_3 l G _ _ _ X [OL a (cs ++ [c])] 76 [(0, .ref a), (1, .int (iI (c : Int)))] [.ref a] _
      refine jt_same 0 (P := OL a (cs ++ [c])) (P' := OB a (cs ++ [c])) rfl ((OB_l (lt256_yes (sb_all hb hcs))).symm) (Φ' := [OB a (cs ++ [c])]) rfl ?_
      exact jr_aret dJ3_append_3_76 rfl (Or.inl ⟨_, rfl⟩) (Or.inr ⟨_, rfl⟩) (Ψ := [OB a (cs ++ [c])]) ⟨rfl, rfl⟩ (js_pickP [0] [] rfl trivial rfl)
  · skip
    refine jt_same 0 (P := OB a cs) (P' := SU a cs) rfl (OB_u (by simpa using hA)) (Φ' := [SU a cs]) rfl ?_
    refine jt_open ?_
    rintro ⟨v, junk⟩ ⟨hb, hl2, hjf, hex⟩
    try dsimp only at hb hl2 hjf hex
    show jT mJ3_append_3 l G _ _ _ X [ow a 1 [.ref v, .int (iI 1), .int (jB false), .int (iI (cs.length : Int))], oa v 0 (lu cs ++ junk)] 0 [(0, .ref a), (1, .int (iI (c : Int)))] [] _
    have hll := lu_len cs
    refine jlv_aload_n dJ3_append_3_0 rfl 0 rfl ?_
    refine jlv_aload_n dJ3_append_3_1 rfl 0 rfl ?_
    refine jr_get 0 rfl rfl 3 q222 (Or.inl rfl) rfl dJ3_append_3_2 ?_
    refine jlv_iconst (v := iI 1) dJ3_append_3_5 rfl ?_
    refine ji_iadd ((cs.length : Int) + 1) (by omega) dJ3_append_3_6 ?_
    refine jr_callU (x := ⟨"java/lang/AbstractStringBuilder", "ensureCapacityInternal", "(I)V"⟩) (owner := "java/lang/AbstractStringBuilder") [.int (iI ((cs.length : Int) + 1))] (sp_ASB_ensure1 l G a v (jB false) (iI (cs.length : Int)) (lu cs ++ junk) (cs.length + 1) (by rw [List.length_append, lu_len]; exact hl2) (by omega)) (rest := []) rfl 0 rfl rfl rfl q466 q4290 q468 (lw_g (lw_at lw_mx 1 rfl) rfl) q79 oJ3_ensureCapacityInternal pJ3_ensureCapacityInternal (by decide) (by decide) (Nat.le_of_ble_eq_true rfl) [0, 1] [] rfl trivial (Φr := []) rfl (by first | omega | exact Nat.zero_le _) dJ3_append_3_7 (fun v9 Ψ hq => ?_) (fun _ _ hq => hq.elim)
    obtain ⟨rfl, rfl⟩ := hq
    show jT mJ3_append_3 l G _ _ _ X [ow a 1 [.ref v, .int (iI 1), .int (jB false), .int (iI (cs.length : Int))], oa v 0 (lu cs ++ junk)] 10 [(0, .ref a), (1, .int (iI (c : Int)))] [] _
    refine jlv_aload_n dJ3_append_3_10 rfl 0 rfl ?_
    refine jr_callU (x := ⟨"java/lang/AbstractStringBuilder", "isLatin1", "()Z"⟩) (owner := "java/lang/AbstractStringBuilder") [] (sp_ASB_isLatin1U l G a v (jB false) (iI (cs.length : Int))) (rest := []) rfl 0 rfl rfl rfl q486 q488 q487 q489 q79 oJ3_isLatin1 pJ3_isLatin1 (by decide) (by decide) (Nat.le_of_ble_eq_true rfl) [0, 1] [] rfl trivial (Φr := [oa v 0 (lu cs ++ junk)]) rfl (by first | omega | exact Nat.zero_le _) dJ3_append_3_11 (fun v9 Ψ hq => ?_) (fun _ _ hq => hq.elim)
    obtain ⟨rfl, rfl⟩ := hq
    show jT mJ3_append_3 l G _ _ _ X [ow a 1 [.ref v, .int (iI 1), .int (jB false), .int (iI (cs.length : Int))], oa v 0 (lu cs ++ junk)] 14 [(0, .ref a), (1, .int (iI (c : Int)))] [.int (iI 0)] _
    refine ji_if_eq 45 (by decide) dJ3_append_3_14 (by decide) (fun h_102 => ?_) (fun h_102 => absurd h_102 (by decide))
    refine jlv_aload_n dJ3_append_3_45 rfl 0 rfl ?_
    refine jr_callU (x := ⟨"java/lang/AbstractStringBuilder", "isLatin1", "()Z"⟩) (owner := "java/lang/AbstractStringBuilder") [] (sp_ASB_isLatin1U l G a v (jB false) (iI (cs.length : Int))) (rest := []) rfl 0 rfl rfl rfl q486 q488 q487 q489 q79 oJ3_isLatin1 pJ3_isLatin1 (by decide) (by decide) (Nat.le_of_ble_eq_true rfl) [0, 1] [] rfl trivial (Φr := [oa v 0 (lu cs ++ junk)]) rfl (by first | omega | exact Nat.zero_le _) dJ3_append_3_46 (fun v9 Ψ hq => ?_) (fun _ _ hq => hq.elim)
    obtain ⟨rfl, rfl⟩ := hq
    show jT mJ3_append_3 l G _ _ _ X [ow a 1 [.ref v, .int (iI 1), .int (jB false), .int (iI (cs.length : Int))], oa v 0 (lu cs ++ junk)] 49 [(0, .ref a), (1, .int (iI (c : Int)))] [.int (iI 0)] _
    refine ji_if_eq 56 (by decide) dJ3_append_3_49 (by decide) (fun h_103 => ?_) (fun h_103 => absurd h_103 (by decide))
    refine jlv_aload_n dJ3_append_3_56 rfl 0 rfl ?_
    refine jr_get 0 rfl rfl 0 q218 (Or.inl rfl) rfl dJ3_append_3_57 ?_
    refine jlv_aload_n dJ3_append_3_60 rfl 0 rfl ?_
    refine jlv_dup dJ3_append_3_61 rfl ?_
    refine jr_get 0 rfl rfl 3 q222 (Or.inl rfl) rfl dJ3_append_3_62 ?_
    refine jlv_dup_x1 dJ3_append_3_65 rfl rfl ?_
    refine jlv_iconst (v := iI 1) dJ3_append_3_66 rfl ?_
    refine ji_iadd ((cs.length : Int) + 1) (by omega) dJ3_append_3_67 ?_
    refine jr_put 0 rfl rfl 3 q222 (Or.inl rfl) rfl rfl rfl rfl rfl dJ3_append_3_68 (Φ' := [ow a 1 [.ref v, .int (iI 1), .int (jB false), .int (iI ((cs.length : Int) + 1))], oa v 0 (lu cs ++ junk)]) rfl ?_
    refine jlv_iload_n dJ3_append_3_71 rfl 1 rfl ?_
    refine jr_callS [.ref v, .int (iI (cs.length : Int)), .int (iI (c : Int))] (sp_U_putCharSB l G v cs junk c (hc) (by omega) (by omega)) (rest := []) q2245 q2246 q82 oJ6_putCharSB pJ6_putCharSB (by decide) (by decide) (Nat.le_of_ble_eq_true rfl) [1, 0] [] rfl trivial (Φr := [ow a 1 [.ref v, .int (iI 1), .int (jB false), .int (iI ((cs.length : Int) + 1))]]) rfl (by first | omega | exact Nat.zero_le _) dJ3_append_3_72 (fun v9 Ψ hq => ?_) (fun _ _ hq => hq.elim)
    obtain ⟨rfl, rfl⟩ := hq
    show jT mJ3_append_3 l G _ _ _ X [oa v 0 (lu (cs ++ [c]) ++ junk.drop 2), ow a 1 [.ref v, .int (iI 1), .int (jB false), .int (iI ((cs.length : Int) + 1))]] 75 [(0, .ref a), (1, .int (iI (c : Int)))] [] _
    refine jlv_aload_n dJ3_append_3_75 rfl 0 rfl ?_
    refine jt_pickP [1, 0] [] rfl trivial (Φ' := [ow a 1 [.ref v, .int (iI 1), .int (jB false), .int (iI ((cs.length : Int) + 1))], oa v 0 (lu (cs ++ [c]) ++ junk.drop 2)]) rfl ?_
    refine jt_fold (A := [ow a 1 [.ref v, .int (iI 1), .int (jB false), .int (iI ((cs.length : Int) + 1))], oa v 0 (lu (cs ++ [c]) ++ junk.drop 2)]) (P := SU a (cs ++ [c])) (SU_fold (u_all hb hc) (junk := junk.drop 2) (by rw [List.length_append, List.length_drop, List.length_singleton]; omega) (jfit_drop 2 hjf) (hex.elim fun x hx => ⟨x, List.mem_append_left _ hx.1, hx.2⟩) (by rw [List.length_append, List.length_singleton]; omega) rfl) ?_
    show jT mJ3_append_3 l G _ _ _ X [SU a (cs ++ [c])] 76 [(0, .ref a), (1, .int (iI (c : Int)))] [.ref a] _
    have hno := hex.elim fun x hx => lt256_no (List.mem_append_left [c] hx.1) (by omega)
    refine jt_same 0 (P := SU a (cs ++ [c])) (P' := OB a (cs ++ [c])) rfl ((OB_u hno).symm) (Φ' := [OB a (cs ++ [c])]) rfl ?_
    exact jr_aret dJ3_append_3_76 rfl (Or.inl ⟨_, rfl⟩) (Or.inr ⟨_, rfl⟩) (Ψ := [OB a (cs ++ [c])]) ⟨rfl, rfl⟩ (js_pickP [0] [] rfl trivial rfl)

theorem sp_SB_appendO (l : Launch) (G : jG) (a : Nat) (cs : List Nat) (c : Nat) (hc : c < 65536) (hl : cs.length < 16) : jS l G yJ4_append_3 mJ4_append_3 8 [.ref a, .int (iI (c : Int))] [OB a cs] (9) (jret (fun v9 Ψ => v9 = some (.ref a) ∧ Ψ = [OB a (cs ++ [c])])) := by
  refine jS_of (plainFor_of_name (by decide)) rfl rfl rfl (Nat.le_of_ble_eq_true rfl) (fun X => ?_)
  show jT mJ4_append_3 l G _ _ _ X [OB a cs] 0 [(0, .ref a), (1, .int (iI (c : Int)))] [] _
  refine jlv_aload_n dJ4_append_3_0 rfl 0 rfl ?_
  refine jlv_iload_n dJ4_append_3_1 rfl 1 rfl ?_
  refine jt_cls 0 rfl OB_has ?_
  refine jr_callSup [.int (iI (c : Int))] (sp_ASB_appendO l G a cs c (hc) (hl)) (rest := []) (by decide) rfl 0 rfl rfl q2239 q4315 q2240 q231 q79 oJ3_append_3 pJ3_append_3 (by decide) (by decide) (Nat.le_of_ble_eq_true rfl) [1, 0] [] rfl trivial (Φr := [im a 1 []]) rfl (by first | omega | exact Nat.zero_le _) dJ4_append_3_2 (fun v9 Ψ hq => ?_) (fun _ _ hq => hq.elim)
  obtain ⟨rfl, rfl⟩ := hq
  show jT mJ4_append_3 l G _ _ _ X [OB a (cs ++ [c]), im a 1 []] 5 [(0, .ref a), (1, .int (iI (c : Int)))] [.ref a] _
  refine jlv_pop dJ4_append_3_5 rfl ?_
  refine jlv_aload_n dJ4_append_3_6 rfl 0 rfl ?_
  exact jr_aret dJ4_append_3_7 rfl (Or.inl ⟨_, rfl⟩) (Or.inr ⟨_, rfl⟩) (Ψ := [OB a (cs ++ [c])]) ⟨rfl, rfl⟩ (js_pickP [0] [] rfl trivial rfl)

