set_option maxRecDepth 100000
/-- the first place of c, -1 without one -/
def jix : List Nat → Nat → Int
  | [], _ => -1
  | x :: xs, c => if x = c then 0 else if jix xs c = -1 then -1 else jix xs c + 1
theorem jix_no : ∀ {cs : List Nat} {c : Nat}, (∀ j : Nat, cs[j]? ≠ some c) → jix cs c = -1
  | [], _, _ => rfl
  | x :: xs, c, h => by
    have h1 : ¬ x = c := fun e => h 0 (by rw [e]; rfl)
    have h2 : jix xs c = -1 := jix_no (fun j e => h (j + 1) e)
    unfold jix; rw [if_neg h1, if_pos h2]
theorem jix_at : ∀ {cs : List Nat} {c k : Nat}, cs[k]? = some c → (∀ j, j < k → cs[j]? ≠ some c) → (k : Int) = jix cs c
  | [], _, _, h, _ => by simp at h
  | x :: xs, c, 0, h, _ => by
    have h : x = c := by simpa using h
    unfold jix; rw [if_pos h]; rfl
  | x :: xs, c, k + 1, h, hq => by
    have h1 : ¬ x = c := fun e => hq 0 (by omega) (by rw [e]; rfl)
    have h2 := jix_at (cs := xs) (c := c) (k := k) (by simpa using h) (fun j hj e => hq (j + 1) (by omega) (by simpa using e))
    unfold jix; rw [if_neg h1, if_neg (by omega)]; omega
theorem jix_mem : ∀ {cs : List Nat} {c : Nat}, 0 ≤ jix cs c ↔ c ∈ cs
  | [], c => by simp [jix]
  | x :: xs, c => by
    have ih := jix_mem (cs := xs) (c := c)
    unfold jix
    by_cases h1 : x = c
    · rw [if_pos h1]; simp [h1]
    · rw [if_neg h1]
      by_cases h2 : jix xs c = -1
      · rw [if_pos h2]
        have : ¬ c ∈ xs := fun h => by have := ih.mpr h; omega
        simp only [List.mem_cons, this, or_false]
        constructor
        · intro h; omega
        · intro h; exact absurd h.symm h1
      · rw [if_neg h2]
        have h3 : -1 ≤ jix xs c := jix_ge xs c
        have : c ∈ xs := ih.mp (by omega)
        simp only [List.mem_cons, this, or_true, iff_true]; omega
where jix_ge : ∀ (xs : List Nat) (c : Nat), -1 ≤ jix xs c
  | [], c => by simp [jix]
  | x :: xs, c => by
    have := jix_ge xs c
    unfold jix; split
    · decide
    · split <;> omega
theorem jix_rg : ∀ (xs : List Nat) (c : Nat), -1 ≤ jix xs c ∧ jix xs c < xs.length ∨ jix xs c = -1
  | [], c => Or.inr rfl
  | x :: xs, c => by
    have := jix_rg xs c
    unfold jix; split
    · left; simp only [List.length_cons]; omega
    · split
      · right; rfl
      · left; simp only [List.length_cons]; omega
abbrev mJ5_isLatin1 : jM := (cJ5_isLatin1, RJ5, 1, (Option.some FieldType.boolean), "isLatin1", none)
theorem oJ5_isLatin1 : jcode yJ5_isLatin1 mJ5_isLatin1 := q1545
theorem pJ5_isLatin1 : jpar yJ5_isLatin1 0 := ⟨by decide +kernel, by decide +kernel, by decide +kernel⟩
theorem sp_S_isLatin1 (l : Launch) (G : jG) (a : Nat) (cs : List Nat) : jS l G yJ5_isLatin1 mJ5_isLatin1 1 [.ref a] [jLs a cs] (0) (jret (fun v9 Ψ => v9 = some (.int (iI 1)) ∧ Ψ = [])) := by
  refine jS_of (plainFor_of_name (by decide)) rfl rfl rfl (Nat.le_of_ble_eq_true rfl) (fun X => ?_)
  show jT mJ5_isLatin1 l G _ _ _ X [jLs a cs] 0 [(0, .ref a)] [] _
  refine jr_g0 (fun hg0 => ?_)
  obtain ⟨gi, ⟨gea, hgea, hgea2⟩, ⟨gem, hgem, hgem2⟩, ⟨gpr, hgpr, hgpr2⟩, ⟨gic, gicad, hgic, hgic2, hgic3⟩, ⟨gcc, gccad, hgcc, hgcc2, hgcc3⟩, grf, gks⟩ := hg0
  refine jt_dup 0 rfl jpers_jLs ?_
  refine jt_open ?_
  rintro v ⟨hb, hl⟩
  try dsimp only at hb hl
  show jT mJ5_isLatin1 l G _ _ _ X [im a 2 [.ref v, .int (iI 0)], ia v 0 (lb cs), jLs a cs] 0 [(0, .ref a)] [] _
  refine jr_getsV 3 rfl q525 (v := .int (iI 1)) (gi (3, 1) (List.mem_of_getElem? (i := 0) rfl)) dJ5_isLatin1_0 ?_
  refine ji_if_eq 17 (by decide) dJ5_isLatin1_3 (by decide) (fun h_19 => absurd h_19 (by decide)) (fun h_19 => ?_)
  refine jlv_aload_n dJ5_isLatin1_6 rfl 0 rfl ?_
  refine jr_get 0 rfl rfl 1 q676 (Or.inl rfl) rfl dJ5_isLatin1_7 ?_
  refine ji_if_ne 17 (by decide) dJ5_isLatin1_10 (by decide) (fun h_20 => absurd h_20 (by decide)) (fun h_20 => ?_)
  refine jlv_iconst (v := iI 1) dJ5_isLatin1_13 rfl ?_
  refine jlv_goto (tgt := 18) dJ5_isLatin1_14 (by decide) ?_
  exact jr_zret dJ5_isLatin1_18 rfl rfl (Ψ := []) ⟨rfl, rfl⟩ (js_pickP [] [] rfl trivial rfl)

abbrev mJ5_coder : jM := (cJ5_coder, RJ5, 1, (Option.some FieldType.byte), "coder", none)
theorem oJ5_coder : jcode yJ5_coder mJ5_coder := q524
theorem pJ5_coder : jpar yJ5_coder 0 := ⟨by decide +kernel, by decide +kernel, by decide +kernel⟩
theorem sp_S_coder (l : Launch) (G : jG) (a : Nat) (cs : List Nat) : jS l G yJ5_coder mJ5_coder 1 [.ref a] [jLs a cs] (0) (jret (fun v9 Ψ => v9 = some (.int (iI 0)) ∧ Ψ = [])) := by
  refine jS_of (plainFor_of_name (by decide)) rfl rfl rfl (Nat.le_of_ble_eq_true rfl) (fun X => ?_)
  show jT mJ5_coder l G _ _ _ X [jLs a cs] 0 [(0, .ref a)] [] _
  refine jr_g0 (fun hg0 => ?_)
  obtain ⟨gi, ⟨gea, hgea, hgea2⟩, ⟨gem, hgem, hgem2⟩, ⟨gpr, hgpr, hgpr2⟩, ⟨gic, gicad, hgic, hgic2, hgic3⟩, ⟨gcc, gccad, hgcc, hgcc2, hgcc3⟩, grf, gks⟩ := hg0
  refine jt_dup 0 rfl jpers_jLs ?_
  refine jt_open ?_
  rintro v ⟨hb, hl⟩
  try dsimp only at hb hl
  show jT mJ5_coder l G _ _ _ X [im a 2 [.ref v, .int (iI 0)], ia v 0 (lb cs), jLs a cs] 0 [(0, .ref a)] [] _
  refine jr_getsV 3 rfl q525 (v := .int (iI 1)) (gi (3, 1) (List.mem_of_getElem? (i := 0) rfl)) dJ5_coder_0 ?_
  refine ji_if_eq 13 (by decide) dJ5_coder_3 (by decide) (fun h_21 => absurd h_21 (by decide)) (fun h_21 => ?_)
  refine jlv_aload_n dJ5_coder_6 rfl 0 rfl ?_
  refine jr_get 0 rfl rfl 1 q676 (Or.inl rfl) rfl dJ5_coder_7 ?_
  refine jlv_goto (tgt := 14) dJ5_coder_10 (by decide) ?_
  exact jr_zret dJ5_coder_14 rfl rfl (Ψ := []) ⟨rfl, rfl⟩ (js_pickP [] [] rfl trivial rfl)

abbrev mJ5_length : jM := (cJ5_length, RJ5, 1, (Option.some FieldType.int), "length", none)
theorem oJ5_length : jcode yJ5_length mJ5_length := q520
theorem pJ5_length : jpar yJ5_length 0 := ⟨by decide +kernel, by decide +kernel, by decide +kernel⟩
theorem sp_S_length (l : Launch) (G : jG) (a : Nat) (cs : List Nat) : jS l G yJ5_length mJ5_length 2 [.ref a] [jLs a cs] (0) (jret (fun v9 Ψ => v9 = some (.int (iI (cs.length : Int))) ∧ Ψ = [])) := by
  refine jS_of (plainFor_of_name (by decide)) rfl rfl rfl (Nat.le_of_ble_eq_true rfl) (fun X => ?_)
  show jT mJ5_length l G _ _ _ X [jLs a cs] 0 [(0, .ref a)] [] _
  refine jt_dup 0 rfl jpers_jLs ?_
  refine jt_open ?_
  rintro v ⟨hb, hl⟩
  try dsimp only at hb hl
  show jT mJ5_length l G _ _ _ X [im a 2 [.ref v, .int (iI 0)], ia v 0 (lb cs), jLs a cs] 0 [(0, .ref a)] [] _
  refine jlv_aload_n dJ5_length_0 rfl 0 rfl ?_
  refine jr_get 0 rfl rfl 0 q675 (Or.inl rfl) rfl dJ5_length_1 ?_
  refine jr_alen 1 rfl (ty := .byte) rfl dJ5_length_4 (n := iI (cs.length : Int)) (by rw [show _ = _ from lb_len cs]; rfl) ?_
  refine jlv_aload_n dJ5_length_5 rfl 0 rfl ?_
  refine jr_callV [] (sp_S_coder l G a cs) (rest := [.int (iI (cs.length : Int))]) 0 rfl rfl rfl q521 q522 q523 q81 oJ5_coder pJ5_coder (by decide) (by decide) (Nat.le_of_ble_eq_true rfl) [2, 0, 1, 2] [2] rfl ⟨⟨_, rfl, jpers_jLs⟩, trivial⟩ (Φr := [im a 2 [.ref v, .int (iI 0)], ia v 0 (lb cs), jLs a cs]) rfl (by first | omega | exact Nat.zero_le _) dJ5_length_6 (fun v9 Ψ hq => ?_) (fun _ _ hq => hq.elim)
  obtain ⟨rfl, rfl⟩ := hq
  show jT mJ5_length l G _ _ _ X [im a 2 [.ref v, .int (iI 0)], ia v 0 (lb cs), jLs a cs] 9 [(0, .ref a)] [.int (iI 0), .int (iI (cs.length : Int))] _
  refine jlv_ishr dJ5_length_9 ?_
  rw [iI_shr0]
  exact jr_zret dJ5_length_10 rfl rfl (Ψ := []) ⟨rfl, rfl⟩ (js_pickP [] [] rfl trivial rfl)

abbrev mJ5_isEmpty : jM := (cJ5_isEmpty, RJ5, 1, (Option.some FieldType.boolean), "isEmpty", none)
theorem oJ5_isEmpty : jcode yJ5_isEmpty mJ5_isEmpty := q2256
theorem pJ5_isEmpty : jpar yJ5_isEmpty 0 := ⟨by decide +kernel, by decide +kernel, by decide +kernel⟩
theorem sp_S_isEmpty (l : Launch) (G : jG) (a : Nat) (cs : List Nat) : jS l G yJ5_isEmpty mJ5_isEmpty 1 [.ref a] [jLs a cs] (0) (jret (fun v9 Ψ => v9 = some (.int (jB (decide (cs.length = 0)))) ∧ Ψ = [])) := by
  refine jS_of (plainFor_of_name (by decide)) rfl rfl rfl (Nat.le_of_ble_eq_true rfl) (fun X => ?_)
  show jT mJ5_isEmpty l G _ _ _ X [jLs a cs] 0 [(0, .ref a)] [] _
  refine jt_dup 0 rfl jpers_jLs ?_
  refine jt_open ?_
  rintro v ⟨hb, hl⟩
  try dsimp only at hb hl
  show jT mJ5_isEmpty l G _ _ _ X [im a 2 [.ref v, .int (iI 0)], ia v 0 (lb cs), jLs a cs] 0 [(0, .ref a)] [] _
  refine jlv_aload_n dJ5_isEmpty_0 rfl 0 rfl ?_
  refine jr_get 0 rfl rfl 0 q675 (Or.inl rfl) rfl dJ5_isEmpty_1 ?_
  refine jr_alen 1 rfl (ty := .byte) rfl dJ5_isEmpty_4 (n := iI (cs.length : Int)) (by rw [show _ = _ from lb_len cs]; rfl) ?_
  refine ji_if_ne 12 (by omega) dJ5_isEmpty_5 (by decide) (fun h_22 => ?_) (fun h_22 => ?_)
  · skip
    refine jlv_iconst (v := iI 0) dJ5_isEmpty_12 rfl ?_
    exact jr_zret dJ5_isEmpty_13 rfl rfl (Ψ := []) ⟨(by congr 2; first | exact jB_t (decide_eq_true (by omega)) | exact jB_f (decide_eq_false (by omega))), rfl⟩ (js_pickP [] [] rfl trivial rfl)
  · skip
    refine jlv_iconst (v := iI 1) dJ5_isEmpty_8 rfl ?_
    refine jlv_goto (tgt := 13) dJ5_isEmpty_9 (by decide) ?_
    exact jr_zret dJ5_isEmpty_13 rfl rfl (Ψ := []) ⟨(by congr 2; first | exact jB_t (decide_eq_true (by omega)) | exact jB_f (decide_eq_false (by omega))), rfl⟩ (js_pickP [] [] rfl trivial rfl)

abbrev mJ5_value : jM := (cJ5_value, RJ5, 1, (Option.some (FieldType.array FieldType.byte)), "value", none)
theorem oJ5_value : jcode yJ5_value mJ5_value := q2598
theorem pJ5_value : jpar yJ5_value 0 := ⟨by decide +kernel, by decide +kernel, by decide +kernel⟩
theorem sp_S_value (l : Launch) (G : jG) (a : Nat) (v : Nat) : jS l G yJ5_value mJ5_value 1 [.ref a] [im a 2 [.ref v, .int (iI 0)]] (0) (jret (fun v9 Ψ => v9 = some (.ref v) ∧ Ψ = [])) := by
  refine jS_of (plainFor_of_name (by decide)) rfl rfl rfl (Nat.le_of_ble_eq_true rfl) (fun X => ?_)
  show jT mJ5_value l G _ _ _ X [im a 2 [.ref v, .int (iI 0)]] 0 [(0, .ref a)] [] _
  refine jlv_aload_n dJ5_value_0 rfl 0 rfl ?_
  refine jr_get 0 rfl rfl 0 q675 (Or.inl rfl) rfl dJ5_value_1 ?_
  exact jr_aret dJ5_value_4 rfl (Or.inr ⟨_, rfl⟩) (Or.inr ⟨_, rfl⟩) (Ψ := []) ⟨rfl, rfl⟩ (js_pickP [] [] rfl trivial rfl)

abbrev mJ5_checkIndex : jM := (cJ5_checkIndex, RJ5, 2, (Option.none : Option FieldType), "checkIndex", none)
theorem oJ5_checkIndex : jcode yJ5_checkIndex mJ5_checkIndex := q1551
theorem pJ5_checkIndex : jpar yJ5_checkIndex 2 := ⟨by decide +kernel, by decide +kernel, by decide +kernel⟩
theorem sp_S_checkIndex (l : Launch) (G : jG) (i : Nat) (n : Nat) (h1 : i < n) (h2 : n ≤ 2147483647) : jS l G yJ5_checkIndex mJ5_checkIndex 2 [.int (iI (i : Int)), .int (iI (n : Int))] [] (0) (jret (fun v9 Ψ => v9 = none ∧ Ψ = [])) := by
  refine jS_of (plainFor_of_name (by decide)) rfl rfl rfl (Nat.le_of_ble_eq_true rfl) (fun X => ?_)
  show jT mJ5_checkIndex l G _ _ _ X [] 0 [(0, .int (iI (i : Int))), (1, .int (iI (n : Int)))] [] _
  refine jr_g0 (fun hg0 => ?_)
  obtain ⟨gi, ⟨gea, hgea, hgea2⟩, ⟨gem, hgem, hgem2⟩, ⟨gpr, hgpr, hgpr2⟩, ⟨gic, gicad, hgic, hgic2, hgic3⟩, ⟨gcc, gccad, hgcc, hgcc2, hgcc3⟩, grf, gks⟩ := hg0
  have hz := grf 21 (by decide)
  refine jlv_iload_n dJ5_checkIndex_0 rfl 0 rfl ?_
  refine jlv_iload_n dJ5_checkIndex_1 rfl 1 rfl ?_
  refine jr_gets 21 rfl q503 dJ5_checkIndex_2 ?_
  refine jr_callS [.int (iI (i : Int)), .int (iI (n : Int)), (jSV G 21)] (sp_checkIndex l G i n (jSV G 21) (h1) (h2) (hz)) (rest := []) q1552 q1301 q94 oJ15_checkIndex pJ15_checkIndex (by decide) (by decide) (Nat.le_of_ble_eq_true rfl) [] [] rfl trivial (Φr := []) rfl (by first | omega | exact Nat.zero_le _) dJ5_checkIndex_5 (fun v9 Ψ hq => ?_) (fun _ _ hq => hq.elim)
  obtain ⟨rfl, rfl⟩ := hq
  show jT mJ5_checkIndex l G _ _ _ X [] 8 [(0, .int (iI (i : Int))), (1, .int (iI (n : Int)))] [.int (iI (i : Int))] _
  refine jlv_pop dJ5_checkIndex_8 rfl ?_
  exact jr_vret dJ5_checkIndex_9 rfl (Ψ := []) ⟨rfl, rfl⟩ (js_pickP [] [] rfl trivial rfl)

abbrev mJ16_charAt : jM := (cJ16_charAt, RJ16, 2, (Option.some FieldType.char), "charAt", none)
theorem oJ16_charAt : jcode yJ16_charAt mJ16_charAt := q1548
theorem pJ16_charAt : jpar yJ16_charAt 2 := ⟨by decide +kernel, by decide +kernel, by decide +kernel⟩
theorem sp_L1_charAt (l : Launch) (G : jG) (f : Bool) (v : Nat) (cs : List Nat) (i : Nat) (c : Nat) (hc : cs[i]? = some c) (hb : c < 256) (hl : cs.length ≤ 1000000) : jS l G yJ16_charAt mJ16_charAt 3 [.ref v, .int (iI (i : Int))] [jA f v ((1, 0), lb cs)] (0) (jret (fun v9 Ψ => v9 = some (.int (iI (c : Int))) ∧ Ψ = [jA f v ((1, 0), lb cs)])) := by
  refine jS_of (plainFor_of_name (by decide)) rfl rfl rfl (Nat.le_of_ble_eq_true rfl) (fun X => ?_)
  show jT mJ16_charAt l G _ _ _ X [jA f v ((1, 0), lb cs)] 0 [(0, .ref v), (1, .int (iI (i : Int)))] [] _
  have hi := jlt hc
  refine jlv_iload_n dJ16_charAt_0 rfl 1 rfl ?_
  refine jlv_aload_n dJ16_charAt_1 rfl 0 rfl ?_
  refine jr_alen 0 rfl (ty := .byte) rfl dJ16_charAt_2 (n := iI (cs.length : Int)) (by rw [show _ = _ from lb_len cs]; rfl) ?_
  refine jr_callS [.int (iI (i : Int)), .int (iI (cs.length : Int))] (sp_S_checkIndex l G i cs.length (hi) (by omega)) (rest := []) q1549 q1550 q81 oJ5_checkIndex pJ5_checkIndex (by decide) (by decide) (Nat.le_of_ble_eq_true rfl) [0] [] rfl trivial (Φr := [jA f v ((1, 0), lb cs)]) rfl (by first | omega | exact Nat.zero_le _) dJ16_charAt_3 (fun v9 Ψ hq => ?_) (fun _ _ hq => hq.elim)
  obtain ⟨rfl, rfl⟩ := hq
  show jT mJ16_charAt l G _ _ _ X [jA f v ((1, 0), lb cs)] 6 [(0, .ref v), (1, .int (iI (i : Int)))] [] _
  refine jlv_aload_n dJ16_charAt_6 rfl 0 rfl ?_
  refine jlv_iload_n dJ16_charAt_7 rfl 1 rfl ?_
  refine jr_bald 0 rfl (n := i) (iI_eqn (by omega) (by omega)) (v := .int (iI (sb c))) (lb_at hc) dJ16_charAt_8 ?_
  refine ji_sipush (by decide) dJ16_charAt_9 ?_
  refine jlv_iand dJ16_charAt_12 ?_
  rw [sb_and c hb]
  refine ji_i2c (c : Int) (by omega) dJ16_charAt_13 ?_
  exact jr_zret dJ16_charAt_14 rfl (jn_char (by omega)) (Ψ := [jA f v ((1, 0), lb cs)]) ⟨rfl, rfl⟩ (js_pickP [0] [] rfl trivial rfl)

abbrev mJ5_charAt : jM := (cJ5_charAt, RJ5, 2, (Option.some FieldType.char), "charAt", none)
theorem oJ5_charAt : jcode yJ5_charAt mJ5_charAt := q1541
theorem pJ5_charAt : jpar yJ5_charAt 1 := ⟨by decide +kernel, by decide +kernel, by decide +kernel⟩
theorem sp_S_charAt (l : Launch) (G : jG) (a : Nat) (cs : List Nat) (i : Nat) (c : Nat) (hc : cs[i]? = some c) : jS l G yJ5_charAt mJ5_charAt 5 [.ref a, .int (iI (i : Int))] [jLs a cs] (0) (jret (fun v9 Ψ => v9 = some (.int (iI (c : Int))) ∧ Ψ = [])) := by
  refine jS_of (plainFor_of_name (by decide)) rfl rfl rfl (Nat.le_of_ble_eq_true rfl) (fun X => ?_)
  show jT mJ5_charAt l G _ _ _ X [jLs a cs] 0 [(0, .ref a), (1, .int (iI (i : Int)))] [] _
  refine jlv_aload_n dJ5_charAt_0 rfl 0 rfl ?_
  refine jt_cls 0 rfl jLs_has ?_
  refine jr_callV [] (sp_S_isLatin1 l G a cs) (rest := []) 0 rfl rfl rfl q1542 q1543 q1544 q81 oJ5_isLatin1 pJ5_isLatin1 (by decide) (by decide) (Nat.le_of_ble_eq_true rfl) [1, 0, 1] [1] rfl ⟨⟨_, rfl, jpers_jLs⟩, trivial⟩ (Φr := [im a 2 [], jLs a cs]) rfl (by first | omega | exact Nat.zero_le _) dJ5_charAt_1 (fun v9 Ψ hq => ?_) (fun _ _ hq => hq.elim)
  obtain ⟨rfl, rfl⟩ := hq
  show jT mJ5_charAt l G _ _ _ X [im a 2 [], jLs a cs] 4 [(0, .ref a), (1, .int (iI (i : Int)))] [.int (iI 1)] _
  refine ji_if_eq 16 (by decide) dJ5_charAt_4 (by decide) (fun h_23 => absurd h_23 (by decide)) (fun h_23 => ?_)
  refine jlv_aload_n dJ5_charAt_7 rfl 0 rfl ?_
  refine jt_dup 1 rfl jpers_jLs ?_
  refine jt_open ?_
  rintro v ⟨hb, hl⟩
  try dsimp only at hb hl
  show jT mJ5_charAt l G _ _ _ X [im a 2 [.ref v, .int (iI 0)], ia v 0 (lb cs), im a 2 [], jLs a cs] 8 [(0, .ref a), (1, .int (iI (i : Int)))] [.ref a] _
  have hb1 := hb c (l_mem hc)
  refine jr_get 0 rfl rfl 0 q675 (Or.inl rfl) rfl dJ5_charAt_8 ?_
  refine jlv_iload_n dJ5_charAt_11 rfl 1 rfl ?_
  refine jr_callS [.ref v, .int (iI (i : Int))] (sp_L1_charAt l G true v cs i c (hc) (hb1) (hl)) (rest := []) q1546 q1547 q95 oJ16_charAt pJ16_charAt (by decide) (by decide) (Nat.le_of_ble_eq_true rfl) [1, 0, 1, 2, 3] [1] rfl ⟨⟨_, rfl, jpers_A⟩, trivial⟩ (Φr := [im a 2 [.ref v, .int (iI 0)], ia v 0 (lb cs), im a 2 [], jLs a cs]) rfl (by first | omega | exact Nat.zero_le _) dJ5_charAt_12 (fun v9 Ψ hq => ?_) (fun _ _ hq => hq.elim)
  obtain ⟨rfl, rfl⟩ := hq
  show jT mJ5_charAt l G _ _ _ X [ia v 0 (lb cs), im a 2 [.ref v, .int (iI 0)], ia v 0 (lb cs), im a 2 [], jLs a cs] 15 [(0, .ref a), (1, .int (iI (i : Int)))] [.int (iI (c : Int))] _
  exact jr_zret dJ5_charAt_15 rfl (jn_char (by omega)) (Ψ := []) ⟨rfl, rfl⟩ (js_pickP [] [] rfl trivial rfl)

abbrev mJ16_equals : jM := (cJ16_equals, RJ16, 3, (Option.some FieldType.boolean), "equals", none)
theorem oJ16_equals : jcode yJ16_equals mJ16_equals := q957
theorem pJ16_equals : jpar yJ16_equals 2 := ⟨by decide +kernel, by decide +kernel, by decide +kernel⟩
theorem sp_L1_equals (l : Launch) (G : jG) (v : Nat) (cs : List Nat) (w : Nat) (ds : List Nat) (hb : ∀ c ∈ cs, c < 256) (hb2 : ∀ c ∈ ds, c < 256) (hl : cs.length ≤ 1000000) (hl2 : ds.length ≤ 1000000) : jS l G yJ16_equals mJ16_equals 1 [.ref v, .ref w] [ia v 0 (lb cs), ia w 0 (lb ds)] (0) (jret (fun v9 Ψ => v9 = some (.int (jB (decide (cs = ds)))) ∧ Ψ = [])) := by
  refine jS_of (plainFor_of_name (by decide)) rfl rfl rfl (Nat.le_of_ble_eq_true rfl) (fun X => ?_)
  show jT mJ16_equals l G _ _ _ X [ia v 0 (lb cs), ia w 0 (lb ds)] 0 [(0, .ref v), (1, .ref w)] [] _
  refine jlv_aload_n dJ16_equals_0 rfl 0 rfl ?_
  refine jr_alen 0 rfl (ty := .byte) rfl dJ16_equals_1 (n := iI (cs.length : Int)) (by rw [show _ = _ from lb_len cs]; rfl) ?_
  refine jlv_aload_n dJ16_equals_2 rfl 1 rfl ?_
  refine jr_alen 1 rfl (ty := .byte) rfl dJ16_equals_3 (n := iI (ds.length : Int)) (by rw [show _ = _ from lb_len ds]; rfl) ?_
  refine ji_icmp_ne 34 (by omega) (by omega) dJ16_equals_4 (by decide) (fun h_24 => ?_) (fun h_24 => ?_)
  · skip
    refine jlv_iconst (v := iI 0) dJ16_equals_34 rfl ?_
    exact jr_zret dJ16_equals_35 rfl rfl (Ψ := []) ⟨(by congr 2; exact jB_f (decide_eq_false (fun q => h_24 (by rw [q])))), rfl⟩ (js_pickP [] [] rfl trivial rfl)
  · skip
    refine jlv_iconst (v := iI 0) dJ16_equals_7 rfl ?_
    refine jlv_istore_n (lv' := [(2, .int (iI 0)), (0, .ref v), (1, .ref w)]) dJ16_equals_8 rfl (by decide) rfl ?_
    have loop_25 : ∀ (k_27 : Nat) (k : Nat) (bb : Nat), cs.length - k < k_27 → (k ≤ cs.length) → (∀ j, j < k → cs[j]? = ds[j]?) → jT mJ16_equals l G 1 (0) (jret (fun v9 Ψ => v9 = some (.int (jB (decide (cs = ds)))) ∧ Ψ = [])) X [ia v 0 (lb cs), ia w 0 (lb ds)] 9 [(2, .int (iI (k : Int))), (0, .ref v), (1, .ref w)] [] bb := by
      intro k_27
      induction k_27 with
      | zero =>
        intro k bb hm
        exact absurd hm (Nat.not_lt_zero _)
      | succ k_27 ih_26 =>
        intro k bb hm hk hq
        refine jlv_iload_n dJ16_equals_9 rfl 0 rfl ?_
        refine jlv_aload_n dJ16_equals_10 rfl 1 rfl ?_
        refine jr_alen 0 rfl (ty := .byte) rfl dJ16_equals_11 (n := iI (cs.length : Int)) (by rw [show _ = _ from lb_len cs]; rfl) ?_
        refine ji_icmp_ge 32 (by omega) (by omega) dJ16_equals_12 (by decide) (fun h_28 => ?_) (fun h_28 => ?_)
        · skip
          refine jlv_iconst (v := iI 1) dJ16_equals_32 rfl ?_
          exact jr_zret dJ16_equals_33 rfl rfl (Ψ := []) ⟨(by congr 2; exact jB_t (decide_eq_true (l_eq (by omega) (fun j hj => hq j (by omega))))), rfl⟩ (js_pickP [] [] rfl trivial rfl)
        · skip
          obtain ⟨c, hc⟩ := l_get (show k < cs.length by omega)
          obtain ⟨e, he⟩ := l_get (show k < ds.length by omega)
          have r1 := sb_rg c (hb c (l_mem hc))
          have r2 := sb_rg e (hb2 e (l_mem he))
          refine jlv_aload_n dJ16_equals_15 rfl 1 rfl ?_
          refine jlv_iload_n dJ16_equals_16 rfl 0 rfl ?_
          refine jr_bald 0 rfl (n := k) (iI_eqn (by omega) (by omega)) (v := .int (iI (sb c))) (lb_at hc) dJ16_equals_17 ?_
          refine jlv_aload_n dJ16_equals_18 rfl 2 rfl ?_
          refine jlv_iload_n dJ16_equals_19 rfl 0 rfl ?_
          refine jr_bald 1 rfl (n := k) (iI_eqn (by omega) (by omega)) (v := .int (iI (sb e))) (lb_at he) dJ16_equals_20 ?_
          refine ji_icmp_eq 26 (by omega) (by omega) dJ16_equals_21 (by decide) (fun h_29 => ?_) (fun h_29 => ?_)
          · skip
            have hce := sb_inj (hb c (l_mem hc)) (hb2 e (l_mem he)) h_29
            refine ji_iinc (lv' := [(2, .int (iI ((k : Int) + 1))), (0, .ref v), (1, .ref w)]) ((k : Int) + 1) (by omega) dJ16_equals_26 0 rfl (by decide) rfl ?_
            refine jlv_goto (tgt := 9) dJ16_equals_29 (by decide) ?_
            refine jt_pickP [0, 1] [] rfl trivial (Φ' := [ia v 0 (lb cs), ia w 0 (lb ds)]) rfl ?_
            refine jt_lv [0, 1, 2] (lv' := [(2, .int (iI ((k : Int) + 1))), (0, .ref v), (1, .ref w)]) rfl ?_
            exact ih_26 (k + 1) _ (by omega) (by omega) (fun j hj => if z : j = k then (by rw [z, hc, he, hce]) else hq j (by omega))
          · skip
            refine jlv_iconst (v := iI 0) dJ16_equals_24 rfl ?_
            exact jr_zret dJ16_equals_25 rfl rfl (Ψ := []) ⟨(by congr 2; exact jB_f (decide_eq_false (fun q => h_29 (by rw [q, he] at hc; cases hc; rfl)))), rfl⟩ (js_pickP [] [] rfl trivial rfl)
    refine jt_pickP [0, 1] [] rfl trivial (Φ' := [ia v 0 (lb cs), ia w 0 (lb ds)]) rfl ?_
    refine jt_lv [0, 1, 2] (lv' := [(2, .int (iI 0)), (0, .ref v), (1, .ref w)]) rfl ?_
    exact loop_25 _ 0 _ (Nat.lt_succ_self _) (Nat.zero_le _) (fun j hj => absurd hj (Nat.not_lt_zero _))

abbrev mJ5_equals : jM := (cJ5_equals, RJ5, 3, (Option.some FieldType.boolean), "equals", none)
theorem oJ5_equals : jcode yJ5_equals mJ5_equals := q953
theorem pJ5_equals : jpar yJ5_equals 1 := ⟨by decide +kernel, by decide +kernel, by decide +kernel⟩
theorem sp_S_equals (l : Launch) (G : jG) (a : Nat) (cs : List Nat) (b : Nat) (ds : List Nat) : jS l G yJ5_equals mJ5_equals 2 [.ref a, .ref b] [jLs a cs, jLs b ds] (0) (jret (fun v9 Ψ => v9 = some (.int (jB (decide (cs = ds)))) ∧ Ψ = [])) := by
  refine jS_of (plainFor_of_name (by decide)) rfl rfl rfl (Nat.le_of_ble_eq_true rfl) (fun X => ?_)
  show jT mJ5_equals l G _ _ _ X [jLs a cs, jLs b ds] 0 [(0, .ref a), (1, .ref b)] [] _
  refine jr_g0 (fun hg0 => ?_)
  obtain ⟨gi, ⟨gea, hgea, hgea2⟩, ⟨gem, hgem, hgem2⟩, ⟨gpr, hgpr, hgpr2⟩, ⟨gic, gicad, hgic, hgic2, hgic3⟩, ⟨gcc, gccad, hgcc, hgcc2, hgcc3⟩, grf, gks⟩ := hg0
  refine jt_dup 1 rfl jpers_jLs ?_
  refine jt_open ?_
  rintro w ⟨hb2, hl2⟩
  try dsimp only at hb2 hl2
  show jT mJ5_equals l G _ _ _ X [im b 2 [.ref w, .int (iI 0)], ia w 0 (lb ds), jLs a cs, jLs b ds] 0 [(0, .ref a), (1, .ref b)] [] _
  refine jt_dup 2 rfl jpers_jLs ?_
  refine jt_open ?_
  rintro v ⟨hb1, hl1⟩
  try dsimp only at hb1 hl1
  show jT mJ5_equals l G _ _ _ X [im a 2 [.ref v, .int (iI 0)], ia v 0 (lb cs), im b 2 [.ref w, .int (iI 0)], ia w 0 (lb ds), jLs a cs, jLs b ds] 0 [(0, .ref a), (1, .ref b)] [] _
  refine jlv_aload_n dJ5_equals_0 rfl 0 rfl ?_
  refine jlv_aload_n dJ5_equals_1 rfl 1 rfl ?_
  refine jlv_acmp_ne (rx := (some a)) (ry := (some b)) (tgt := 7) dJ5_equals_2 (by decide) (fun h_30 => ?_) (fun h_30 => ?_)
  · skip
    refine jlv_aload_n dJ5_equals_7 rfl 1 rfl ?_
    refine jt_E 2 (E := "java/lang/String") rfl rfl (Or.inl rfl) ?_
    refine jr_inst 0 rfl q954 dJ5_equals_8 ?_
    show jT mJ5_equals l G _ _ _ X [jE "java/lang/String" b, im a 2 [.ref v, .int (iI 0)], ia v 0 (lb cs), im b 2 [.ref w, .int (iI 0)], ia w 0 (lb ds), jLs a cs, jLs b ds] 11 [(0, .ref a), (1, .ref b)] [.int (iI 1)] _
    refine ji_if_eq 54 (by decide) dJ5_equals_11 (by decide) (fun h_31 => absurd h_31 (by decide)) (fun h_31 => ?_)
    refine jlv_aload_n dJ5_equals_14 rfl 1 rfl ?_
    refine jr_cast 0 rfl q954 dJ5_equals_15 ?_
    refine jlv_astore_n (lv' := [(2, .ref b), (0, .ref a), (1, .ref b)]) dJ5_equals_18 rfl (by decide) rfl ?_
    refine jr_getsV 3 rfl q525 (v := .int (iI 1)) (gi (3, 1) (List.mem_of_getElem? (i := 0) rfl)) dJ5_equals_19 ?_
    refine ji_if_eq 36 (by decide) dJ5_equals_22 (by decide) (fun h_32 => absurd h_32 (by decide)) (fun h_32 => ?_)
    refine jlv_aload_n dJ5_equals_25 rfl 1 rfl ?_
    refine jr_get 1 rfl rfl 1 q676 (Or.inl rfl) rfl dJ5_equals_26 ?_
    refine jlv_aload_n dJ5_equals_29 rfl 0 rfl ?_
    refine jr_get 3 rfl rfl 1 q676 (Or.inl rfl) rfl dJ5_equals_30 ?_
    refine ji_icmp_ne 54 (by decide) (by decide) dJ5_equals_33 (by decide) (fun h_33 => absurd h_33 (by decide)) (fun h_33 => ?_)
    refine jlv_aload_n dJ5_equals_36 rfl 1 rfl ?_
    refine jr_get 1 rfl rfl 0 q675 (Or.inl rfl) rfl dJ5_equals_37 ?_
    refine jlv_aload_n dJ5_equals_40 rfl 0 rfl ?_
    refine jr_get 3 rfl rfl 0 q675 (Or.inl rfl) rfl dJ5_equals_41 ?_
    refine jr_callS [.ref v, .ref w] (sp_L1_equals l G v cs w ds (hb1) (hb2) (hl1) (hl2)) (rest := []) q955 q956 q95 oJ16_equals pJ16_equals (by decide) (by decide) (Nat.le_of_ble_eq_true rfl) [2, 4, 0, 1, 2, 3, 4, 5, 6] [2, 4] rfl ⟨⟨_, rfl, jpers_A⟩, ⟨⟨_, rfl, jpers_A⟩, trivial⟩⟩ (Φr := [jE "java/lang/String" b, im a 2 [.ref v, .int (iI 0)], ia v 0 (lb cs), im b 2 [.ref w, .int (iI 0)], ia w 0 (lb ds), jLs a cs, jLs b ds]) rfl (by first | omega | exact Nat.zero_le _) dJ5_equals_44 (fun v9 Ψ hq => ?_) (fun _ _ hq => hq.elim)
    obtain ⟨rfl, rfl⟩ := hq
    show jT mJ5_equals l G _ _ _ X [jE "java/lang/String" b, im a 2 [.ref v, .int (iI 0)], ia v 0 (lb cs), im b 2 [.ref w, .int (iI 0)], ia w 0 (lb ds), jLs a cs, jLs b ds] 47 [(2, .ref b), (0, .ref a), (1, .ref b)] [.int (jB (decide (cs = ds)))] _
    refine ji_bz_eq 54 dJ5_equals_47 (by decide) (fun h_34 => ?_) (fun h_34 => ?_)
    · skip
      refine jlv_iconst (v := iI 0) dJ5_equals_54 rfl ?_
      exact jr_zret dJ5_equals_55 rfl rfl (Ψ := []) ⟨(by congr 2; first | exact jB_t (by simpa using h_34) | exact jB_f (by simpa using h_34)), rfl⟩ (js_pickP [] [] rfl trivial rfl)
    · skip
      refine jlv_iconst (v := iI 1) dJ5_equals_50 rfl ?_
      refine jlv_goto (tgt := 55) dJ5_equals_51 (by decide) ?_
      exact jr_zret dJ5_equals_55 rfl rfl (Ψ := []) ⟨(by congr 2; first | exact jB_t (by simpa using h_34) | exact jB_f (by simpa using h_34)), rfl⟩ (js_pickP [] [] rfl trivial rfl)
  · skip
    cases h_30
    refine jt_fact (z := v = w) (fun F H hs => by have := jagreeO (jap (i := 0) rfl) (jap (i := 2) rfl) hs 0 _ _ rfl rfl; injection this) (fun hvw => ?_)
    subst hvw
    refine jt_fact (z := lb cs = lb ds) (fun F H hs => jagreeA (jap (i := 1) rfl) (jap (i := 3) rfl) hs) (fun hcd => ?_)
    have hcd2 := lb_inj hb1 hb2 hcd
    refine jlv_iconst (v := iI 1) dJ5_equals_5 rfl ?_
    exact jr_zret dJ5_equals_6 rfl rfl (Ψ := []) ⟨(by congr 2; exact jB_t (decide_eq_true hcd2)), rfl⟩ (js_pickP [] [] rfl trivial rfl)

abbrev mJ16_canEncode : jM := (cJ16_canEncode, RJ16, 1, (Option.some FieldType.boolean), "canEncode", none)
theorem oJ16_canEncode : jcode yJ16_canEncode mJ16_canEncode := q2141
theorem pJ16_canEncode : jpar yJ16_canEncode 1 := ⟨by decide +kernel, by decide +kernel, by decide +kernel⟩
theorem sp_canEncode (l : Launch) (G : jG) (c : Nat) (h : c ≤ 65535) : jS l G yJ16_canEncode mJ16_canEncode 1 [.int (iI (c : Int))] [] (0) (jret (fun v9 Ψ => v9 = some (.int (jB (decide (c < 256)))) ∧ Ψ = [])) := by
  refine jS_of (plainFor_of_name (by decide)) rfl rfl rfl (Nat.le_of_ble_eq_true rfl) (fun X => ?_)
  show jT mJ16_canEncode l G _ _ _ X [] 0 [(0, .int (iI (c : Int)))] [] _
  refine jlv_iload_n dJ16_canEncode_0 rfl 0 rfl ?_
  refine ji_if_lt 15 (by omega) dJ16_canEncode_1 (by decide) (fun h_35 => absurd h_35 (by omega)) (fun h_35 => ?_)
  refine jlv_iload_n dJ16_canEncode_4 rfl 0 rfl ?_
  refine ji_sipush (by decide) dJ16_canEncode_5 ?_
  refine ji_icmp_gt 15 (by omega) (by omega) dJ16_canEncode_8 (by decide) (fun h_36 => ?_) (fun h_36 => ?_)
  · skip
    refine jlv_iconst (v := iI 0) dJ16_canEncode_15 rfl ?_
    exact jr_zret dJ16_canEncode_16 rfl rfl (Ψ := []) ⟨(by congr 2; first | exact jB_t (decide_eq_true (by omega)) | exact jB_f (decide_eq_false (by omega))), rfl⟩ (js_pickP [] [] rfl trivial rfl)
  · skip
    refine jlv_iconst (v := iI 1) dJ16_canEncode_11 rfl ?_
    refine jlv_goto (tgt := 16) dJ16_canEncode_12 (by decide) ?_
    exact jr_zret dJ16_canEncode_16 rfl rfl (Ψ := []) ⟨(by congr 2; first | exact jB_t (decide_eq_true (by omega)) | exact jB_f (decide_eq_false (by omega))), rfl⟩ (js_pickP [] [] rfl trivial rfl)

abbrev mJ16_canEncode_2 : jM := (cJ16_canEncode_2, RJ16, 1, (Option.some FieldType.boolean), "canEncode", none)
theorem oJ16_canEncode_2 : jcode yJ16_canEncode_2 mJ16_canEncode_2 := q2244
theorem pJ16_canEncode_2 : jpar yJ16_canEncode_2 1 := ⟨by decide +kernel, by decide +kernel, by decide +kernel⟩
theorem sp_canEncodeC (l : Launch) (G : jG) (c : Nat) (h : c ≤ 65535) : jS l G yJ16_canEncode_2 mJ16_canEncode_2 1 [.int (iI (c : Int))] [] (0) (jret (fun v9 Ψ => v9 = some (.int (jB (decide (c < 256)))) ∧ Ψ = [])) := by
  refine jS_of (plainFor_of_name (by decide)) rfl rfl rfl (Nat.le_of_ble_eq_true rfl) (fun X => ?_)
  show jT mJ16_canEncode_2 l G _ _ _ X [] 0 [(0, .int (iI (c : Int)))] [] _
  refine jlv_iload_n dJ16_canEncode_2_0 rfl 0 rfl ?_
  refine ji_sipush (by decide) dJ16_canEncode_2_1 ?_
  refine ji_icmp_gt 11 (by omega) (by omega) dJ16_canEncode_2_4 (by decide) (fun h_37 => ?_) (fun h_37 => ?_)
  · skip
    refine jlv_iconst (v := iI 0) dJ16_canEncode_2_11 rfl ?_
    exact jr_zret dJ16_canEncode_2_12 rfl rfl (Ψ := []) ⟨(by congr 2; first | exact jB_t (decide_eq_true (by omega)) | exact jB_f (decide_eq_false (by omega))), rfl⟩ (js_pickP [] [] rfl trivial rfl)
  · skip
    refine jlv_iconst (v := iI 1) dJ16_canEncode_2_7 rfl ?_
    refine jlv_goto (tgt := 12) dJ16_canEncode_2_8 (by decide) ?_
    exact jr_zret dJ16_canEncode_2_12 rfl rfl (Ψ := []) ⟨(by congr 2; first | exact jB_t (decide_eq_true (by omega)) | exact jB_f (decide_eq_false (by omega))), rfl⟩ (js_pickP [] [] rfl trivial rfl)

abbrev mJ16_indexOfChar : jM := (cJ16_indexOfChar, RJ16, 6, (Option.some FieldType.int), "indexOfChar", none)
theorem oJ16_indexOfChar : jcode yJ16_indexOfChar mJ16_indexOfChar := q2146
theorem pJ16_indexOfChar : jpar yJ16_indexOfChar 4 := ⟨by decide +kernel, by decide +kernel, by decide +kernel⟩
theorem sp_indexOfChar (l : Launch) (G : jG) (v : Nat) (cs : List Nat) (c : Nat) (hb : ∀ c ∈ cs, c < 256) (hc : c < 256) (hl : cs.length ≤ 1000000) : jS l G yJ16_indexOfChar mJ16_indexOfChar 1 [.ref v, .int (iI (c : Int)), .int (iI 0), .int (iI (cs.length : Int))] [ia v 0 (lb cs)] (0) (jret (fun v9 Ψ => v9 = some (.int (iI (jix cs c))) ∧ Ψ = [])) := by
  refine jS_of (plainFor_of_name (by decide)) rfl rfl rfl (Nat.le_of_ble_eq_true rfl) (fun X => ?_)
  show jT mJ16_indexOfChar l G _ _ _ X [ia v 0 (lb cs)] 0 [(0, .ref v), (1, .int (iI (c : Int))), (2, .int (iI 0)), (3, .int (iI (cs.length : Int)))] [] _
  have rc := sb_rg c hc
  refine jlv_iload_n dJ16_indexOfChar_0 rfl 1 rfl ?_
  refine jlv_i2b (v := iI (sb c)) dJ16_indexOfChar_1 (sb_i2b c hc) ?_
  refine jlv_istore (lv' := [(4, .int (iI (sb c))), (0, .ref v), (1, .int (iI (c : Int))), (2, .int (iI 0)), (3, .int (iI (cs.length : Int)))]) dJ16_indexOfChar_2 (by decide) rfl ?_
  refine jlv_iload_n dJ16_indexOfChar_4 rfl 3 rfl ?_
  refine jlv_istore (lv' := [(5, .int (iI 0)), (4, .int (iI (sb c))), (0, .ref v), (1, .int (iI (c : Int))), (2, .int (iI 0)), (3, .int (iI (cs.length : Int)))]) dJ16_indexOfChar_5 (by decide) rfl ?_
  have loop_38 : ∀ (k_40 : Nat) (k : Nat) (bb : Nat), cs.length - k < k_40 → (k ≤ cs.length) → (∀ j, j < k → cs[j]? ≠ some c) → jT mJ16_indexOfChar l G 1 (0) (jret (fun v9 Ψ => v9 = some (.int (iI (jix cs c))) ∧ Ψ = [])) X [ia v 0 (lb cs)] 7 [(5, .int (iI (k : Int))), (4, .int (iI (sb c))), (0, .ref v), (3, .int (iI (cs.length : Int)))] [] bb := by
    intro k_40
    induction k_40 with
    | zero =>
      intro k bb hm
      exact absurd hm (Nat.not_lt_zero _)
    | succ k_40 ih_39 =>
      intro k bb hm hk hq
      refine jlv_iload dJ16_indexOfChar_7 0 rfl ?_
      refine jlv_iload_n dJ16_indexOfChar_9 rfl 3 rfl ?_
      refine ji_icmp_ge 31 (by omega) (by omega) dJ16_indexOfChar_10 (by decide) (fun h_41 => ?_) (fun h_41 => ?_)
      · skip
        refine jlv_iconst (v := iI (-1)) dJ16_indexOfChar_31 rfl ?_
        exact jr_zret dJ16_indexOfChar_32 rfl rfl (Ψ := []) ⟨(by rw [jix_no (fun j e => hq j (by have := jlt e; omega) e)]), rfl⟩ (js_pickP [] [] rfl trivial rfl)
      · skip
        obtain ⟨e, he⟩ := l_get (show k < cs.length by omega)
        have r1 := sb_rg e (hb e (l_mem he))
        refine jlv_aload_n dJ16_indexOfChar_13 rfl 2 rfl ?_
        refine jlv_iload dJ16_indexOfChar_14 0 rfl ?_
        refine jr_bald 0 rfl (n := k) (iI_eqn (by omega) (by omega)) (v := .int (iI (sb e))) (lb_at he) dJ16_indexOfChar_16 ?_
        refine jlv_iload dJ16_indexOfChar_17 1 rfl ?_
        refine ji_icmp_ne 25 (by omega) (by omega) dJ16_indexOfChar_19 (by decide) (fun h_42 => ?_) (fun h_42 => ?_)
        · skip
          refine ji_iinc (lv' := [(5, .int (iI ((k : Int) + 1))), (4, .int (iI (sb c))), (0, .ref v), (3, .int (iI (cs.length : Int)))]) ((k : Int) + 1) (by omega) dJ16_indexOfChar_25 0 rfl (by decide) rfl ?_
          refine jlv_goto (tgt := 7) dJ16_indexOfChar_28 (by decide) ?_
          refine jt_pickP [0] [] rfl trivial (Φ' := [ia v 0 (lb cs)]) rfl ?_
          refine jt_lv [0, 1, 2, 3] (lv' := [(5, .int (iI ((k : Int) + 1))), (4, .int (iI (sb c))), (0, .ref v), (3, .int (iI (cs.length : Int)))]) rfl ?_
          exact ih_39 (k + 1) _ (by omega) (by omega) (fun j hj => if z : j = k then (by rw [z, he]; intro q; cases q; exact h_42 rfl) else hq j (by omega))
        · skip
          have hec := sb_inj (hb e (l_mem he)) hc h_42
          refine jlv_iload dJ16_indexOfChar_22 0 rfl ?_
          exact jr_zret dJ16_indexOfChar_24 rfl rfl (Ψ := []) ⟨(by rw [jix_at (hec ▸ he) hq]), rfl⟩ (js_pickP [] [] rfl trivial rfl)
  refine jt_pickP [0] [] rfl trivial (Φ' := [ia v 0 (lb cs)]) rfl ?_
  refine jt_lv [0, 1, 2, 5] (lv' := [(5, .int (iI 0)), (4, .int (iI (sb c))), (0, .ref v), (3, .int (iI (cs.length : Int)))]) rfl ?_
  exact loop_38 _ 0 _ (Nat.lt_succ_self _) (Nat.zero_le _) (fun j hj => absurd hj (Nat.not_lt_zero _))

abbrev mJ16_indexOf : jM := (cJ16_indexOf, RJ16, 4, (Option.some FieldType.int), "indexOf", none)
theorem oJ16_indexOf : jcode yJ16_indexOf mJ16_indexOf := q2138
theorem pJ16_indexOf : jpar yJ16_indexOf 4 := ⟨by decide +kernel, by decide +kernel, by decide +kernel⟩
theorem sp_L1_indexOf (l : Launch) (G : jG) (v : Nat) (cs : List Nat) (c : Nat) (hb : ∀ c ∈ cs, c < 256) (hc : c ≤ 65535) (hl : cs.length ≤ 1000000) : jS l G yJ16_indexOf mJ16_indexOf 2 [.ref v, .int (iI (c : Int)), .int (iI 0), .int (iI (cs.length : Int))] [ia v 0 (lb cs)] (0) (jret (fun v9 Ψ => v9 = some (.int (iI (jix cs c))) ∧ Ψ = [])) := by
  refine jS_of (plainFor_of_name (by decide)) rfl rfl rfl (Nat.le_of_ble_eq_true rfl) (fun X => ?_)
  show jT mJ16_indexOf l G _ _ _ X [ia v 0 (lb cs)] 0 [(0, .ref v), (1, .int (iI (c : Int))), (2, .int (iI 0)), (3, .int (iI (cs.length : Int)))] [] _
  refine jlv_iload_n dJ16_indexOf_0 rfl 1 rfl ?_
  refine jr_callS [.int (iI (c : Int))] (sp_canEncode l G c (hc)) (rest := []) q2139 q2140 q95 oJ16_canEncode pJ16_canEncode (by decide) (by decide) (Nat.le_of_ble_eq_true rfl) [0] [] rfl trivial (Φr := [ia v 0 (lb cs)]) rfl (by first | omega | exact Nat.zero_le _) dJ16_indexOf_1 (fun v9 Ψ hq => ?_) (fun _ _ hq => hq.elim)
  obtain ⟨rfl, rfl⟩ := hq
  show jT mJ16_indexOf l G _ _ _ X [ia v 0 (lb cs)] 4 [(0, .ref v), (1, .int (iI (c : Int))), (2, .int (iI 0)), (3, .int (iI (cs.length : Int)))] [.int (jB (decide (c < 256)))] _
  refine ji_bz_ne 9 dJ16_indexOf_4 (by decide) (fun h_43 => ?_) (fun h_43 => ?_)
  · skip
    have hc2 : c < 256 := by simpa using h_43
    refine jlv_iload_n dJ16_indexOf_9 rfl 2 rfl ?_
    refine jlv_iconst (v := iI 0) dJ16_indexOf_10 rfl ?_
    refine jr_mmax 0 (by omega) (by omega) (by omega) q2142 q291 q85 q292 (by decide) (Nat.le_of_ble_eq_true rfl) dJ16_indexOf_11 ?_
    refine jlv_istore_n (lv' := [(2, .int (iI 0)), (0, .ref v), (1, .int (iI (c : Int))), (3, .int (iI (cs.length : Int)))]) dJ16_indexOf_14 rfl (by decide) rfl ?_
    refine jlv_iload_n dJ16_indexOf_15 rfl 3 rfl ?_
    refine jlv_aload_n dJ16_indexOf_16 rfl 1 rfl ?_
    refine jr_alen 0 rfl (ty := .byte) rfl dJ16_indexOf_17 (n := iI (cs.length : Int)) (by rw [show _ = _ from lb_len cs]; rfl) ?_
    refine jr_mmin (cs.length : Int) (by omega) (by omega) (by omega) q2143 q362 q85 q363 (by decide) (Nat.le_of_ble_eq_true rfl) dJ16_indexOf_18 ?_
    refine jlv_istore_n (lv' := [(3, .int (iI (cs.length : Int))), (2, .int (iI 0)), (0, .ref v), (1, .int (iI (c : Int)))]) dJ16_indexOf_21 rfl (by decide) rfl ?_
    refine jlv_iload_n dJ16_indexOf_22 rfl 1 rfl ?_
    refine jlv_iload_n dJ16_indexOf_23 rfl 0 rfl ?_
    refine ji_icmp_lt 29 (by omega) (by omega) dJ16_indexOf_24 (by decide) (fun h_44 => ?_) (fun h_44 => ?_)
    · skip
      refine jlv_aload_n dJ16_indexOf_29 rfl 2 rfl ?_
      refine jlv_iload_n dJ16_indexOf_30 rfl 3 rfl ?_
      refine jlv_iload_n dJ16_indexOf_31 rfl 1 rfl ?_
      refine jlv_iload_n dJ16_indexOf_32 rfl 0 rfl ?_
      refine jr_callS [.ref v, .int (iI (c : Int)), .int (iI 0), .int (iI (cs.length : Int))] (sp_indexOfChar l G v cs c (hb) (hc2) (hl)) (rest := []) q2144 q2145 q95 oJ16_indexOfChar pJ16_indexOfChar (by decide) (by decide) (Nat.le_of_ble_eq_true rfl) [0, 0] [0] rfl ⟨⟨_, rfl, jpers_A⟩, trivial⟩ (Φr := [ia v 0 (lb cs)]) rfl (by first | omega | exact Nat.zero_le _) dJ16_indexOf_33 (fun v9 Ψ hq => ?_) (fun _ _ hq => hq.elim)
      obtain ⟨rfl, rfl⟩ := hq
      show jT mJ16_indexOf l G _ _ _ X [ia v 0 (lb cs)] 36 [(3, .int (iI (cs.length : Int))), (2, .int (iI 0)), (0, .ref v), (1, .int (iI (c : Int)))] [.int (iI (jix cs c))] _
      exact jr_zret dJ16_indexOf_36 rfl rfl (Ψ := []) ⟨rfl, rfl⟩ (js_pickP [] [] rfl trivial rfl)
    · skip
      refine jlv_iconst (v := iI (-1)) dJ16_indexOf_27 rfl ?_
      exact jr_zret dJ16_indexOf_28 rfl rfl (Ψ := []) ⟨(by rw [jix_no (fun j e => by have := jlt e; omega)]), rfl⟩ (js_pickP [] [] rfl trivial rfl)
  · skip
    have hc2 : ¬ c < 256 := by simpa using h_43
    refine jlv_iconst (v := iI (-1)) dJ16_indexOf_7 rfl ?_
    exact jr_zret dJ16_indexOf_8 rfl rfl (Ψ := []) ⟨(by rw [jix_no (fun j e => hc2 (hb c (l_mem e)))]), rfl⟩ (js_pickP [] [] rfl trivial rfl)

abbrev mJ5_indexOf_2 : jM := (cJ5_indexOf_2, RJ5, 3, (Option.some FieldType.int), "indexOf", none)
theorem oJ5_indexOf_2 : jcode yJ5_indexOf_2 mJ5_indexOf_2 := q2134
theorem pJ5_indexOf_2 : jpar yJ5_indexOf_2 2 := ⟨by decide +kernel, by decide +kernel, by decide +kernel⟩
theorem sp_S_indexOf2 (l : Launch) (G : jG) (a : Nat) (cs : List Nat) (c : Nat) (hc : c ≤ 65535) : jS l G yJ5_indexOf_2 mJ5_indexOf_2 3 [.ref a, .int (iI (c : Int)), .int (iI 0)] [jLs a cs] (0) (jret (fun v9 Ψ => v9 = some (.int (iI (jix cs c))) ∧ Ψ = [])) := by
  refine jS_of (plainFor_of_name (by decide)) rfl rfl rfl (Nat.le_of_ble_eq_true rfl) (fun X => ?_)
  show jT mJ5_indexOf_2 l G _ _ _ X [jLs a cs] 0 [(0, .ref a), (1, .int (iI (c : Int))), (2, .int (iI 0))] [] _
  refine jlv_aload_n dJ5_indexOf_2_0 rfl 0 rfl ?_
  refine jt_cls 0 rfl jLs_has ?_
  refine jr_callV [] (sp_S_isLatin1 l G a cs) (rest := []) 0 rfl rfl rfl q1542 q1543 q1544 q81 oJ5_isLatin1 pJ5_isLatin1 (by decide) (by decide) (Nat.le_of_ble_eq_true rfl) [1, 0, 1] [1] rfl ⟨⟨_, rfl, jpers_jLs⟩, trivial⟩ (Φr := [im a 2 [], jLs a cs]) rfl (by first | omega | exact Nat.zero_le _) dJ5_indexOf_2_1 (fun v9 Ψ hq => ?_) (fun _ _ hq => hq.elim)
  obtain ⟨rfl, rfl⟩ := hq
  show jT mJ5_indexOf_2 l G _ _ _ X [im a 2 [], jLs a cs] 4 [(0, .ref a), (1, .int (iI (c : Int))), (2, .int (iI 0))] [.int (iI 1)] _
  refine ji_if_eq 23 (by decide) dJ5_indexOf_2_4 (by decide) (fun h_45 => absurd h_45 (by decide)) (fun h_45 => ?_)
  refine jlv_aload_n dJ5_indexOf_2_7 rfl 0 rfl ?_
  refine jt_dup 1 rfl jpers_jLs ?_
  refine jt_open ?_
  rintro v ⟨hb, hl⟩
  try dsimp only at hb hl
  show jT mJ5_indexOf_2 l G _ _ _ X [im a 2 [.ref v, .int (iI 0)], ia v 0 (lb cs), im a 2 [], jLs a cs] 8 [(0, .ref a), (1, .int (iI (c : Int))), (2, .int (iI 0))] [.ref a] _
  refine jr_get 0 rfl rfl 0 q675 (Or.inl rfl) rfl dJ5_indexOf_2_8 ?_
  refine jlv_iload_n dJ5_indexOf_2_11 rfl 1 rfl ?_
  refine jlv_iload_n dJ5_indexOf_2_12 rfl 2 rfl ?_
  refine jlv_aload_n dJ5_indexOf_2_13 rfl 0 rfl ?_
  refine jr_callV [] (sp_S_length l G a cs) (rest := [.int (iI 0), .int (iI (c : Int)), .ref v]) 0 rfl rfl rfl q2135 q518 q519 q81 oJ5_length pJ5_length (by decide) (by decide) (Nat.le_of_ble_eq_true rfl) [3, 0, 1, 2, 3] [3] rfl ⟨⟨_, rfl, jpers_jLs⟩, trivial⟩ (Φr := [im a 2 [.ref v, .int (iI 0)], ia v 0 (lb cs), im a 2 [], jLs a cs]) rfl (by first | omega | exact Nat.zero_le _) dJ5_indexOf_2_14 (fun v9 Ψ hq => ?_) (fun _ _ hq => hq.elim)
  obtain ⟨rfl, rfl⟩ := hq
  show jT mJ5_indexOf_2 l G _ _ _ X [im a 2 [.ref v, .int (iI 0)], ia v 0 (lb cs), im a 2 [], jLs a cs] 17 [(0, .ref a), (1, .int (iI (c : Int))), (2, .int (iI 0))] [.int (iI (cs.length : Int)), .int (iI 0), .int (iI (c : Int)), .ref v] _
  refine jr_callS [.ref v, .int (iI (c : Int)), .int (iI 0), .int (iI (cs.length : Int))] (sp_L1_indexOf l G v cs c (hb) (hc) (hl)) (rest := []) q2136 q2137 q95 oJ16_indexOf pJ16_indexOf (by decide) (by decide) (Nat.le_of_ble_eq_true rfl) [1, 0, 1, 2, 3] [1] rfl ⟨⟨_, rfl, jpers_A⟩, trivial⟩ (Φr := [im a 2 [.ref v, .int (iI 0)], ia v 0 (lb cs), im a 2 [], jLs a cs]) rfl (by first | omega | exact Nat.zero_le _) dJ5_indexOf_2_17 (fun v9 Ψ hq => ?_) (fun _ _ hq => hq.elim)
  obtain ⟨rfl, rfl⟩ := hq
  show jT mJ5_indexOf_2 l G _ _ _ X [im a 2 [.ref v, .int (iI 0)], ia v 0 (lb cs), im a 2 [], jLs a cs] 20 [(0, .ref a), (1, .int (iI (c : Int))), (2, .int (iI 0))] [.int (iI (jix cs c))] _
  refine jlv_goto (tgt := 36) dJ5_indexOf_2_20 (by decide) ?_
  exact jr_zret dJ5_indexOf_2_36 rfl rfl (Ψ := []) ⟨rfl, rfl⟩ (js_pickP [] [] rfl trivial rfl)

abbrev mJ5_indexOf : jM := (cJ5_indexOf, RJ5, 2, (Option.some FieldType.int), "indexOf", none)
theorem oJ5_indexOf : jcode yJ5_indexOf mJ5_indexOf := q2130
theorem pJ5_indexOf : jpar yJ5_indexOf 1 := ⟨by decide +kernel, by decide +kernel, by decide +kernel⟩
theorem sp_S_indexOf (l : Launch) (G : jG) (a : Nat) (cs : List Nat) (c : Nat) (hc : c ≤ 65535) : jS l G yJ5_indexOf mJ5_indexOf 4 [.ref a, .int (iI (c : Int))] [jLs a cs] (0) (jret (fun v9 Ψ => v9 = some (.int (iI (jix cs c))) ∧ Ψ = [])) := by
  refine jS_of (plainFor_of_name (by decide)) rfl rfl rfl (Nat.le_of_ble_eq_true rfl) (fun X => ?_)
  show jT mJ5_indexOf l G _ _ _ X [jLs a cs] 0 [(0, .ref a), (1, .int (iI (c : Int)))] [] _
  refine jlv_aload_n dJ5_indexOf_0 rfl 0 rfl ?_
  refine jlv_iload_n dJ5_indexOf_1 rfl 1 rfl ?_
  refine jlv_iconst (v := iI 0) dJ5_indexOf_2 rfl ?_
  refine jt_cls 0 rfl jLs_has ?_
  refine jr_callV [.int (iI (c : Int)), .int (iI 0)] (sp_S_indexOf2 l G a cs c (hc)) (rest := []) 0 rfl rfl rfl q2131 q2132 q2133 q81 oJ5_indexOf_2 pJ5_indexOf_2 (by decide) (by decide) (Nat.le_of_ble_eq_true rfl) [1, 0, 1] [1] rfl ⟨⟨_, rfl, jpers_jLs⟩, trivial⟩ (Φr := [im a 2 [], jLs a cs]) rfl (by first | omega | exact Nat.zero_le _) dJ5_indexOf_3 (fun v9 Ψ hq => ?_) (fun _ _ hq => hq.elim)
  obtain ⟨rfl, rfl⟩ := hq
  show jT mJ5_indexOf l G _ _ _ X [im a 2 [], jLs a cs] 6 [(0, .ref a), (1, .int (iI (c : Int)))] [.int (iI (jix cs c))] _
  exact jr_zret dJ5_indexOf_6 rfl rfl (Ψ := []) ⟨rfl, rfl⟩ (js_pickP [] [] rfl trivial rfl)

