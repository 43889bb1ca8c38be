set_option maxRecDepth 100000
/-- how two strings compare -/
def scmp : List Nat → List Nat → Int
  | [], ds => -(ds.length : Int)
  | c :: cs, [] => ((c :: cs).length : Int)
  | c :: cs, d :: ds => if c = d then scmp cs ds else (c : Int) - (d : Int)
theorem scmp_neg : ∀ cs ds : List Nat, -(scmp cs ds) = scmp ds cs
  | [], [] => rfl
  | [], d :: ds => by simp [scmp]
  | c :: cs, [] => by simp [scmp]
  | c :: cs, d :: ds => by
    have ih := scmp_neg cs ds
    unfold scmp
    by_cases h : c = d
    · rw [if_pos h, if_pos h.symm]; exact ih
    · rw [if_neg h, if_neg (fun e => h e.symm)]; omega
theorem scmp_end : ∀ {cs ds : List Nat}, (∀ j, j < min cs.length ds.length → cs[j]? = ds[j]?) → scmp cs ds = (cs.length : Int) - (ds.length : Int)
  | [], ds, _ => by simp [scmp]
  | c :: cs, [], _ => by simp [scmp]
  | c :: cs, d :: ds, h => by
    have h0 : c = d := by simpa using h 0 (by simp only [List.length_cons]; omega)
    have ih := scmp_end (cs := cs) (ds := ds) (fun j hj => by simpa using h (j + 1) (by simp only [List.length_cons]; omega))
    unfold scmp
    rw [if_pos h0, ih]
    simp only [List.length_cons]; omega
theorem scmp_ne : ∀ {cs ds : List Nat} {k c d : Nat}, (∀ j, j < k → cs[j]? = ds[j]?) → cs[k]? = some c → ds[k]? = some d → c ≠ d → scmp cs ds = (c : Int) - (d : Int)
  | [], _, _, _, _, _, h, _, _ => by simp at h
  | _ :: _, [], _, _, _, _, _, h, _ => by simp at h
  | x :: cs, y :: ds, 0, c, d, _, hc, hd, hn => by
    have h1 : x = c := by simpa using hc
    have h2 : y = d := by simpa using hd
    subst h1; subst h2
    unfold scmp; rw [if_neg hn]
  | x :: cs, y :: ds, k + 1, c, d, h, hc, hd, hn => by
    have h0 : x = y := by simpa using h 0 (by omega)
    unfold scmp
    rw [if_pos h0]
    exact scmp_ne (k := k) (fun j hj => by simpa using h (j + 1) (by omega)) (by simpa using hc) (by simpa using hd) hn
theorem scmp_rg : ∀ (cs ds : List Nat), (∀ c ∈ cs, c < 65536) → (∀ c ∈ ds, c < 65536) → cs.length ≤ 1000000 → ds.length ≤ 1000000 → -1000000 ≤ scmp cs ds ∧ scmp cs ds ≤ 1000000
  | [], ds, _, _, _, h => by simp only [scmp]; omega
  | c :: cs, [], _, _, h, _ => by simp only [scmp]; omega
  | c :: cs, d :: ds, h1, h2, h3, h4 => by
    have ih := scmp_rg cs ds (fun x hx => h1 x (List.mem_cons_of_mem _ hx)) (fun x hx => h2 x (List.mem_cons_of_mem _ hx)) (by simp only [List.length_cons] at h3; omega) (by simp only [List.length_cons] at h4; omega)
    have c1 := h1 c List.mem_cons_self
    have d1 := h2 d List.mem_cons_self
    unfold scmp
    split
    · exact ih
    · omega
/-- equal strings, and they alone, compare as 0 -/
theorem scmp_zero : ∀ {cs ds : List Nat}, scmp cs ds = 0 ↔ cs = ds
  | [], [] => by simp [scmp]
  | [], d :: ds => by simp [scmp]; omega
  | c :: cs, [] => by simp [scmp]; omega
  | c :: cs, d :: ds => by
    have ih := scmp_zero (cs := cs) (ds := ds)
    unfold scmp
    by_cases h : c = d
    · rw [if_pos h, ih]; simp [h]
    · rw [if_neg h]; simp [h]; omega
theorem scmp_trans : ∀ {cs ds es : List Nat}, scmp cs ds < 0 → scmp ds es < 0 → scmp cs es < 0
  | [], [], _, h, _ => by simp [scmp] at h
  | [], d :: ds, [], _, h => by simp [scmp] at h; omega
  | [], d :: ds, e :: es, _, _ => by simp [scmp]
  | c :: cs, [], _, h, _ => by simp [scmp] at h; omega
  | c :: cs, d :: ds, [], _, h => by simp [scmp] at h; omega
  | c :: cs, d :: ds, e :: es, h1, h2 => by
    have ih := scmp_trans (cs := cs) (ds := ds) (es := es)
    unfold scmp at h1 h2 ⊢
    by_cases a : c = d <;> by_cases b : d = e
    · rw [if_pos a] at h1; rw [if_pos b] at h2; rw [if_pos (a.trans b)]; exact ih h1 h2
    · rw [if_pos a] at h1; rw [if_neg b] at h2; rw [if_neg (by omega)]; omega
    · rw [if_neg a] at h1; rw [if_pos b] at h2; rw [if_neg (by omega)]; omega
    · rw [if_neg a] at h1; rw [if_neg b] at h2; rw [if_neg (by omega)]; omega
abbrev mJ16_getChar : jM := (cJ16_getChar, RJ16, 2, (Option.some FieldType.char), "getChar", none)
theorem oJ16_getChar : jcode yJ16_getChar mJ16_getChar := q3642
theorem pJ16_getChar : jpar yJ16_getChar 2 := ⟨by decide +kernel, by decide +kernel, by decide +kernel⟩
theorem sp_L1_getChar (l : Launch) (G : jG) (f : Bool) (v : Nat) (cs : List Nat) (i : Nat) (c : Nat) (hc : cs[i]? = some c) (hb : c < 256) (hL : cs.length ≤ 1000000) : jS l G yJ16_getChar mJ16_getChar 1 [.ref v, .int (iI (i : Int))] [jA f v ((1, 0), (lb cs))] (0) (jret (fun v9 Ψ => v9 = some (.int (iI (c : Int))) ∧ Ψ = [jA f v ((1, 0), (lb cs))])) := by
  refine jS_of (plainFor_of_name (by decide)) rfl rfl rfl (Nat.le_of_ble_eq_true rfl) (fun X => ?_)
  show jT mJ16_getChar l G _ _ _ X [jA f v ((1, 0), (lb cs))] 0 [(0, .ref v), (1, .int (iI (i : Int)))] [] _
  have hi := jlt hc
  refine jlv_aload_n dJ16_getChar_0 rfl 0 rfl ?_
  refine jlv_iload_n dJ16_getChar_1 rfl 1 rfl ?_
  refine jr_bald 0 rfl (n := i) (iI_eqn (by omega) (by omega)) (v := .int (iI (sb c))) (lb_at hc) dJ16_getChar_2 ?_
  refine ji_sipush (by decide) dJ16_getChar_3 ?_
  refine jlv_iand dJ16_getChar_6 ?_
  rw [sb_and (c) hb]
  refine ji_i2c (c : Int) (by omega) dJ16_getChar_7 ?_
  exact jr_zret dJ16_getChar_8 rfl (jn_char (by omega)) (Ψ := [jA f v ((1, 0), (lb cs))]) ⟨rfl, rfl⟩ (js_pickP [0] [] rfl trivial rfl)

abbrev mJ16_length : jM := (cJ16_length, RJ16, 1, (Option.some FieldType.int), "length", none)
theorem oJ16_length : jcode yJ16_length mJ16_length := q3654
theorem pJ16_length : jpar yJ16_length 1 := ⟨by decide +kernel, by decide +kernel, by decide +kernel⟩
theorem sp_L1_length (l : Launch) (G : jG) (f : Bool) (v : Nat) (cs : List Nat) : jS l G yJ16_length mJ16_length 1 [.ref v] [jA f v ((1, 0), (lb cs))] (0) (jret (fun v9 Ψ => v9 = some (.int (iI (cs.length : Int))) ∧ Ψ = [jA f v ((1, 0), (lb cs))])) := by
  refine jS_of (plainFor_of_name (by decide)) rfl rfl rfl (Nat.le_of_ble_eq_true rfl) (fun X => ?_)
  show jT mJ16_length l G _ _ _ X [jA f v ((1, 0), (lb cs))] 0 [(0, .ref v)] [] _
  refine jlv_aload_n dJ16_length_0 rfl 0 rfl ?_
  refine jr_alen 0 rfl (ty := .byte) rfl dJ16_length_1 (n := iI (cs.length : Int)) (by rw [show _ = _ from lb_len cs]; rfl) ?_
  exact jr_zret dJ16_length_2 rfl rfl (Ψ := [jA f v ((1, 0), (lb cs))]) ⟨rfl, rfl⟩ (js_pickP [0] [] rfl trivial rfl)

abbrev mJ6_compareValues : jM := (cJ6_compareValues, RJ6, 8, (Option.some FieldType.int), "compareValues", none)
theorem oJ6_compareValues : jcode yJ6_compareValues mJ6_compareValues := q3648
theorem pJ6_compareValues : jpar yJ6_compareValues 4 := ⟨by decide +kernel, by decide +kernel, by decide +kernel⟩
theorem sp_U_compareValues (l : Launch) (G : jG) (v : Nat) (cs : List Nat) (w : Nat) (ds : List Nat) (hb : ∀ c ∈ cs, c < 65536) (hb2 : ∀ c ∈ ds, c < 65536) (hl : cs.length ≤ 400000) (hl2 : ds.length ≤ 400000) : jS l G yJ6_compareValues mJ6_compareValues 4 [.ref v, .ref w, .int (iI (cs.length : Int)), .int (iI (ds.length : Int))] [ia v 0 (lu cs ++ []), ia w 0 (lu ds ++ [])] (0) (jret (fun v9 Ψ => v9 = some (.int (iI (scmp cs ds))) ∧ Ψ = [])) := by
  refine jS_of (plainFor_of_name (by decide)) rfl rfl rfl (Nat.le_of_ble_eq_true rfl) (fun X => ?_)
  show jT mJ6_compareValues l G _ _ _ X [ia v 0 (lu cs ++ []), ia w 0 (lu ds ++ [])] 0 [(0, .ref v), (1, .ref w), (2, .int (iI (cs.length : Int))), (3, .int (iI (ds.length : Int)))] [] _
  have hsr := scmp_rg cs ds (fun c hc => by have := hb c hc; omega) hb2 (by omega) (by omega)
  refine jlv_iload_n dJ6_compareValues_0 rfl 2 rfl ?_
  refine jlv_iload_n dJ6_compareValues_1 rfl 3 rfl ?_
  refine jr_mmin ((min cs.length ds.length : Nat) : Int) (by omega) (by omega) (by omega) q2151 q362 q85 q363 (by decide) (Nat.le_of_ble_eq_true rfl) dJ6_compareValues_2 ?_
  refine jlv_istore (lv' := [(4, .int (iI ((min cs.length ds.length : Nat) : Int))), (0, .ref v), (1, .ref w), (2, .int (iI (cs.length : Int))), (3, .int (iI (ds.length : Int)))]) dJ6_compareValues_5 (by decide) rfl ?_
  refine jlv_iconst (v := iI 0) dJ6_compareValues_7 rfl ?_
  refine jlv_istore (lv' := [(5, .int (iI 0)), (4, .int (iI ((min cs.length ds.length : Nat) : Int))), (0, .ref v), (1, .ref w), (2, .int (iI (cs.length : Int))), (3, .int (iI (ds.length : Int)))]) dJ6_compareValues_8 (by decide) rfl ?_
  have loop_112 : ∀ (k_114 : Nat) (k : Nat) (bb : Nat), min cs.length ds.length - k < k_114 → (k ≤ min cs.length ds.length) → (∀ j, j < k → cs[j]? = ds[j]?) → jT mJ6_compareValues l G 4 (0) (jret (fun v9 Ψ => v9 = some (.int (iI (scmp cs ds))) ∧ Ψ = [])) X [ia v 0 (lu cs ++ []), ia w 0 (lu ds ++ [])] 10 [(5, .int (iI (k : Int))), (4, .int (iI ((min cs.length ds.length : Nat) : Int))), (0, .ref v), (1, .ref w), (2, .int (iI (cs.length : Int))), (3, .int (iI (ds.length : Int)))] [] bb := by
    intro k_114
    induction k_114 with
    | zero =>
      intro k bb hm
      exact absurd hm (Nat.not_lt_zero _)
    | succ k_114 ih_113 =>
      intro k bb hm hk hq
      refine jlv_iload dJ6_compareValues_10 0 rfl ?_
      refine jlv_iload dJ6_compareValues_12 1 rfl ?_
      refine ji_icmp_ge 52 (by omega) (by omega) dJ6_compareValues_14 (by decide) (fun h_115 => ?_) (fun h_115 => ?_)
      · skip
        refine jlv_iload_n dJ6_compareValues_52 rfl 4 rfl ?_
        refine jlv_iload_n dJ6_compareValues_53 rfl 5 rfl ?_
        refine ji_isub ((cs.length : Int) - (ds.length : Int)) (by omega) dJ6_compareValues_54 ?_
        exact jr_zret dJ6_compareValues_55 rfl rfl (Ψ := []) ⟨(by rw [scmp_end (fun j hj => hq j (by omega))]), rfl⟩ (js_pickP [] [] rfl trivial rfl)
      · skip
        obtain ⟨c, hc⟩ := l_get (show k < cs.length by omega)
        obtain ⟨d, hd⟩ := l_get (show k < ds.length by omega)
        have c1 := hb c (l_mem hc)
        have d1 := hb2 d (l_mem hd)
        refine jlv_aload_n dJ6_compareValues_17 rfl 2 rfl ?_
        refine jlv_iload dJ6_compareValues_18 0 rfl ?_
        refine jr_callS [.ref v, .int (iI (k : Int))] (sp_U_getChar l G true v cs [] k c (hc) (c1) (by simp; omega)) (rest := []) q668 q669 q82 oJ6_getChar pJ6_getChar (by decide) (by decide) (Nat.le_of_ble_eq_true rfl) [0, 0, 1] [0] rfl ⟨⟨_, rfl, jpers_A⟩, trivial⟩ (Φr := [ia v 0 (lu cs ++ []), ia w 0 (lu ds ++ [])]) rfl (by first | omega | exact Nat.zero_le _) dJ6_compareValues_20 (fun v9 Ψ hq => ?_) (fun _ _ hq => hq.elim)
        obtain ⟨rfl, rfl⟩ := hq
        show jT mJ6_compareValues l G _ _ _ X [ia v 0 (lu cs ++ []), ia v 0 (lu cs ++ []), ia w 0 (lu ds ++ [])] 23 [(5, .int (iI (k : Int))), (4, .int (iI ((min cs.length ds.length : Nat) : Int))), (0, .ref v), (1, .ref w), (2, .int (iI (cs.length : Int))), (3, .int (iI (ds.length : Int)))] [.int (iI (c : Int))] _
        refine jlv_istore (lv' := [(6, .int (iI (c : Int))), (5, .int (iI (k : Int))), (4, .int (iI ((min cs.length ds.length : Nat) : Int))), (0, .ref v), (1, .ref w), (2, .int (iI (cs.length : Int))), (3, .int (iI (ds.length : Int)))]) dJ6_compareValues_23 (by decide) rfl ?_
        refine jlv_aload_n dJ6_compareValues_25 rfl 4 rfl ?_
        refine jlv_iload dJ6_compareValues_26 1 rfl ?_
        refine jr_callS [.ref w, .int (iI (k : Int))] (sp_U_getChar l G true w ds [] k d (hd) (d1) (by simp; omega)) (rest := []) q668 q669 q82 oJ6_getChar pJ6_getChar (by decide) (by decide) (Nat.le_of_ble_eq_true rfl) [2, 0, 1, 2] [2] rfl ⟨⟨_, rfl, jpers_A⟩, trivial⟩ (Φr := [ia v 0 (lu cs ++ []), ia v 0 (lu cs ++ []), ia w 0 (lu ds ++ [])]) rfl (by first | omega | exact Nat.zero_le _) dJ6_compareValues_28 (fun v9 Ψ hq => ?_) (fun _ _ hq => hq.elim)
        obtain ⟨rfl, rfl⟩ := hq
        show jT mJ6_compareValues l G _ _ _ X [ia w 0 (lu ds ++ []), ia v 0 (lu cs ++ []), ia v 0 (lu cs ++ []), ia w 0 (lu ds ++ [])] 31 [(6, .int (iI (c : Int))), (5, .int (iI (k : Int))), (4, .int (iI ((min cs.length ds.length : Nat) : Int))), (0, .ref v), (1, .ref w), (2, .int (iI (cs.length : Int))), (3, .int (iI (ds.length : Int)))] [.int (iI (d : Int))] _
        refine jlv_istore (lv' := [(7, .int (iI (d : Int))), (6, .int (iI (c : Int))), (5, .int (iI (k : Int))), (4, .int (iI ((min cs.length ds.length : Nat) : Int))), (0, .ref v), (1, .ref w), (2, .int (iI (cs.length : Int))), (3, .int (iI (ds.length : Int)))]) dJ6_compareValues_31 (by decide) rfl ?_
        refine jlv_iload dJ6_compareValues_33 1 rfl ?_
        refine jlv_iload dJ6_compareValues_35 0 rfl ?_
        refine ji_icmp_eq 46 (by omega) (by omega) dJ6_compareValues_37 (by decide) (fun h_116 => ?_) (fun h_116 => ?_)
        · skip
          refine ji_iinc (lv' := [(5, .int (iI ((k : Int) + 1))), (7, .int (iI (d : Int))), (6, .int (iI (c : Int))), (4, .int (iI ((min cs.length ds.length : Nat) : Int))), (0, .ref v), (1, .ref w), (2, .int (iI (cs.length : Int))), (3, .int (iI (ds.length : Int)))]) ((k : Int) + 1) (by omega) dJ6_compareValues_46 2 rfl (by decide) rfl ?_
          refine jlv_goto (tgt := 10) dJ6_compareValues_49 (by decide) ?_
          refine jt_pickP [1, 0] [] rfl trivial (Φ' := [ia v 0 (lu cs ++ []), ia w 0 (lu ds ++ [])]) rfl ?_
          refine jt_lv [0, 3, 4, 5, 6, 7] (lv' := [(5, .int (iI ((k : Int) + 1))), (4, .int (iI ((min cs.length ds.length : Nat) : Int))), (0, .ref v), (1, .ref w), (2, .int (iI (cs.length : Int))), (3, .int (iI (ds.length : Int)))]) rfl ?_
          exact ih_113 (k + 1) _ (by omega) (by omega) (fun j hj => if z : j = k then (by rw [z, hc, hd, show c = d by omega]) else hq j (by omega))
        · skip
          refine jlv_iload dJ6_compareValues_40 1 rfl ?_
          refine jlv_iload dJ6_compareValues_42 0 rfl ?_
          refine ji_isub ((c : Int) - (d : Int)) (by omega) dJ6_compareValues_44 ?_
          exact jr_zret dJ6_compareValues_45 rfl rfl (Ψ := []) ⟨(by rw [scmp_ne hq hc hd (by omega)]), rfl⟩ (js_pickP [] [] rfl trivial rfl)
  refine jt_pickP [0, 1] [] rfl trivial (Φ' := [ia v 0 (lu cs ++ []), ia w 0 (lu ds ++ [])]) rfl ?_
  refine jt_lv [0, 1, 2, 3, 4, 5] (lv' := [(5, .int (iI 0)), (4, .int (iI ((min cs.length ds.length : Nat) : Int))), (0, .ref v), (1, .ref w), (2, .int (iI (cs.length : Int))), (3, .int (iI (ds.length : Int)))]) rfl ?_
  exact loop_112 _ 0 _ (Nat.lt_succ_self _) (Nat.zero_le _) (fun j hj => absurd hj (Nat.not_lt_zero _))

abbrev mJ16_compareToUTF16Values : jM := (cJ16_compareToUTF16Values, RJ16, 8, (Option.some FieldType.int), "compareToUTF16Values", none)
theorem oJ16_compareToUTF16Values : jcode yJ16_compareToUTF16Values mJ16_compareToUTF16Values := q3658
theorem pJ16_compareToUTF16Values : jpar yJ16_compareToUTF16Values 4 := ⟨by decide +kernel, by decide +kernel, by decide +kernel⟩
theorem sp_L1_compareValues (l : Launch) (G : jG) (v : Nat) (cs : List Nat) (w : Nat) (ds : List Nat) (hb : ∀ c ∈ cs, c < 256) (hb2 : ∀ c ∈ ds, c < 65536) (hl : cs.length ≤ 400000) (hl2 : ds.length ≤ 400000) : jS l G yJ16_compareToUTF16Values mJ16_compareToUTF16Values 4 [.ref v, .ref w, .int (iI (cs.length : Int)), .int (iI (ds.length : Int))] [ia v 0 (lb cs), ia w 0 (lu ds ++ [])] (0) (jret (fun v9 Ψ => v9 = some (.int (iI (scmp cs ds))) ∧ Ψ = [])) := by
  refine jS_of (plainFor_of_name (by decide)) rfl rfl rfl (Nat.le_of_ble_eq_true rfl) (fun X => ?_)
  show jT mJ16_compareToUTF16Values l G _ _ _ X [ia v 0 (lb cs), ia w 0 (lu ds ++ [])] 0 [(0, .ref v), (1, .ref w), (2, .int (iI (cs.length : Int))), (3, .int (iI (ds.length : Int)))] [] _
  have hsr := scmp_rg cs ds (fun c hc => by have := hb c hc; omega) hb2 (by omega) (by omega)
  refine jlv_iload_n dJ16_compareToUTF16Values_0 rfl 2 rfl ?_
  refine jlv_iload_n dJ16_compareToUTF16Values_1 rfl 3 rfl ?_
  refine jr_mmin ((min cs.length ds.length : Nat) : Int) (by omega) (by omega) (by omega) q2143 q362 q85 q363 (by decide) (Nat.le_of_ble_eq_true rfl) dJ16_compareToUTF16Values_2 ?_
  refine jlv_istore (lv' := [(4, .int (iI ((min cs.length ds.length : Nat) : Int))), (0, .ref v), (1, .ref w), (2, .int (iI (cs.length : Int))), (3, .int (iI (ds.length : Int)))]) dJ16_compareToUTF16Values_5 (by decide) rfl ?_
  refine jlv_iconst (v := iI 0) dJ16_compareToUTF16Values_7 rfl ?_
  refine jlv_istore (lv' := [(5, .int (iI 0)), (4, .int (iI ((min cs.length ds.length : Nat) : Int))), (0, .ref v), (1, .ref w), (2, .int (iI (cs.length : Int))), (3, .int (iI (ds.length : Int)))]) dJ16_compareToUTF16Values_8 (by decide) rfl ?_
  have loop_117 : ∀ (k_119 : Nat) (k : Nat) (bb : Nat), min cs.length ds.length - k < k_119 → (k ≤ min cs.length ds.length) → (∀ j, j < k → cs[j]? = ds[j]?) → jT mJ16_compareToUTF16Values l G 4 (0) (jret (fun v9 Ψ => v9 = some (.int (iI (scmp cs ds))) ∧ Ψ = [])) X [ia v 0 (lb cs), ia w 0 (lu ds ++ [])] 10 [(5, .int (iI (k : Int))), (4, .int (iI ((min cs.length ds.length : Nat) : Int))), (0, .ref v), (1, .ref w), (2, .int (iI (cs.length : Int))), (3, .int (iI (ds.length : Int)))] [] bb := by
    intro k_119
    induction k_119 with
    | zero =>
      intro k bb hm
      exact absurd hm (Nat.not_lt_zero _)
    | succ k_119 ih_118 =>
      intro k bb hm hk hq
      refine jlv_iload dJ16_compareToUTF16Values_10 0 rfl ?_
      refine jlv_iload dJ16_compareToUTF16Values_12 1 rfl ?_
      refine ji_icmp_ge 52 (by omega) (by omega) dJ16_compareToUTF16Values_14 (by decide) (fun h_120 => ?_) (fun h_120 => ?_)
      · skip
        refine jlv_iload_n dJ16_compareToUTF16Values_52 rfl 4 rfl ?_
        refine jlv_iload_n dJ16_compareToUTF16Values_53 rfl 5 rfl ?_
        refine ji_isub ((cs.length : Int) - (ds.length : Int)) (by omega) dJ16_compareToUTF16Values_54 ?_
        exact jr_zret dJ16_compareToUTF16Values_55 rfl rfl (Ψ := []) ⟨(by rw [scmp_end (fun j hj => hq j (by omega))]), rfl⟩ (js_pickP [] [] rfl trivial rfl)
      · skip
        obtain ⟨c, hc⟩ := l_get (show k < cs.length by omega)
        obtain ⟨d, hd⟩ := l_get (show k < ds.length by omega)
        have c1 := hb c (l_mem hc)
        have d1 := hb2 d (l_mem hd)
        refine jlv_aload_n dJ16_compareToUTF16Values_17 rfl 2 rfl ?_
        refine jlv_iload dJ16_compareToUTF16Values_18 0 rfl ?_
        refine jr_callS [.ref v, .int (iI (k : Int))] (sp_L1_getChar l G true v cs k c (hc) (c1) (by omega)) (rest := []) q3640 q3641 q95 oJ16_getChar pJ16_getChar (by decide) (by decide) (Nat.le_of_ble_eq_true rfl) [0, 0, 1] [0] rfl ⟨⟨_, rfl, jpers_A⟩, trivial⟩ (Φr := [ia v 0 (lb cs), ia w 0 (lu ds ++ [])]) rfl (by first | omega | exact Nat.zero_le _) dJ16_compareToUTF16Values_20 (fun v9 Ψ hq => ?_) (fun _ _ hq => hq.elim)
        obtain ⟨rfl, rfl⟩ := hq
        show jT mJ16_compareToUTF16Values l G _ _ _ X [ia v 0 (lb cs), ia v 0 (lb cs), ia w 0 (lu ds ++ [])] 23 [(5, .int (iI (k : Int))), (4, .int (iI ((min cs.length ds.length : Nat) : Int))), (0, .ref v), (1, .ref w), (2, .int (iI (cs.length : Int))), (3, .int (iI (ds.length : Int)))] [.int (iI (c : Int))] _
        refine jlv_istore (lv' := [(6, .int (iI (c : Int))), (5, .int (iI (k : Int))), (4, .int (iI ((min cs.length ds.length : Nat) : Int))), (0, .ref v), (1, .ref w), (2, .int (iI (cs.length : Int))), (3, .int (iI (ds.length : Int)))]) dJ16_compareToUTF16Values_23 (by decide) rfl ?_
        refine jlv_aload_n dJ16_compareToUTF16Values_25 rfl 4 rfl ?_
        refine jlv_iload dJ16_compareToUTF16Values_26 1 rfl ?_
        refine jr_callS [.ref w, .int (iI (k : Int))] (sp_U_getChar l G true w ds [] k d (hd) (d1) (by simp; omega)) (rest := []) q3659 q669 q82 oJ6_getChar pJ6_getChar (by decide) (by decide) (Nat.le_of_ble_eq_true rfl) [2, 0, 1, 2] [2] rfl ⟨⟨_, rfl, jpers_A⟩, trivial⟩ (Φr := [ia v 0 (lb cs), ia v 0 (lb cs), ia w 0 (lu ds ++ [])]) rfl (by first | omega | exact Nat.zero_le _) dJ16_compareToUTF16Values_28 (fun v9 Ψ hq => ?_) (fun _ _ hq => hq.elim)
        obtain ⟨rfl, rfl⟩ := hq
        show jT mJ16_compareToUTF16Values l G _ _ _ X [ia w 0 (lu ds ++ []), ia v 0 (lb cs), ia v 0 (lb cs), ia w 0 (lu ds ++ [])] 31 [(6, .int (iI (c : Int))), (5, .int (iI (k : Int))), (4, .int (iI ((min cs.length ds.length : Nat) : Int))), (0, .ref v), (1, .ref w), (2, .int (iI (cs.length : Int))), (3, .int (iI (ds.length : Int)))] [.int (iI (d : Int))] _
        refine jlv_istore (lv' := [(7, .int (iI (d : Int))), (6, .int (iI (c : Int))), (5, .int (iI (k : Int))), (4, .int (iI ((min cs.length ds.length : Nat) : Int))), (0, .ref v), (1, .ref w), (2, .int (iI (cs.length : Int))), (3, .int (iI (ds.length : Int)))]) dJ16_compareToUTF16Values_31 (by decide) rfl ?_
        refine jlv_iload dJ16_compareToUTF16Values_33 1 rfl ?_
        refine jlv_iload dJ16_compareToUTF16Values_35 0 rfl ?_
        refine ji_icmp_eq 46 (by omega) (by omega) dJ16_compareToUTF16Values_37 (by decide) (fun h_121 => ?_) (fun h_121 => ?_)
        · skip
          refine ji_iinc (lv' := [(5, .int (iI ((k : Int) + 1))), (7, .int (iI (d : Int))), (6, .int (iI (c : Int))), (4, .int (iI ((min cs.length ds.length : Nat) : Int))), (0, .ref v), (1, .ref w), (2, .int (iI (cs.length : Int))), (3, .int (iI (ds.length : Int)))]) ((k : Int) + 1) (by omega) dJ16_compareToUTF16Values_46 2 rfl (by decide) rfl ?_
          refine jlv_goto (tgt := 10) dJ16_compareToUTF16Values_49 (by decide) ?_
          refine jt_pickP [1, 0] [] rfl trivial (Φ' := [ia v 0 (lb cs), ia w 0 (lu ds ++ [])]) rfl ?_
          refine jt_lv [0, 3, 4, 5, 6, 7] (lv' := [(5, .int (iI ((k : Int) + 1))), (4, .int (iI ((min cs.length ds.length : Nat) : Int))), (0, .ref v), (1, .ref w), (2, .int (iI (cs.length : Int))), (3, .int (iI (ds.length : Int)))]) rfl ?_
          exact ih_118 (k + 1) _ (by omega) (by omega) (fun j hj => if z : j = k then (by rw [z, hc, hd, show c = d by omega]) else hq j (by omega))
        · skip
          refine jlv_iload dJ16_compareToUTF16Values_40 1 rfl ?_
          refine jlv_iload dJ16_compareToUTF16Values_42 0 rfl ?_
          refine ji_isub ((c : Int) - (d : Int)) (by omega) dJ16_compareToUTF16Values_44 ?_
          exact jr_zret dJ16_compareToUTF16Values_45 rfl rfl (Ψ := []) ⟨(by rw [scmp_ne hq hc hd (by omega)]), rfl⟩ (js_pickP [] [] rfl trivial rfl)
  refine jt_pickP [0, 1] [] rfl trivial (Φ' := [ia v 0 (lb cs), ia w 0 (lu ds ++ [])]) rfl ?_
  refine jt_lv [0, 1, 2, 3, 4, 5] (lv' := [(5, .int (iI 0)), (4, .int (iI ((min cs.length ds.length : Nat) : Int))), (0, .ref v), (1, .ref w), (2, .int (iI (cs.length : Int))), (3, .int (iI (ds.length : Int)))]) rfl ?_
  exact loop_117 _ 0 _ (Nat.lt_succ_self _) (Nat.zero_le _) (fun j hj => absurd hj (Nat.not_lt_zero _))

abbrev mJ6_compareTo : jM := (cJ6_compareTo, RJ6, 4, (Option.some FieldType.int), "compareTo", none)
theorem oJ6_compareTo : jcode yJ6_compareTo mJ6_compareTo := q3645
theorem pJ6_compareTo : jpar yJ6_compareTo 2 := ⟨by decide +kernel, by decide +kernel, by decide +kernel⟩
theorem sp_U_compareTo (l : Launch) (G : jG) (v : Nat) (cs : List Nat) (w : Nat) (ds : List Nat) (hb : ∀ c ∈ cs, c < 65536) (hb2 : ∀ c ∈ ds, c < 65536) (hl : cs.length ≤ 400000) (hl2 : ds.length ≤ 400000) : jS l G yJ6_compareTo mJ6_compareTo 5 [.ref v, .ref w] [ia v 0 (lu cs ++ []), ia w 0 (lu ds ++ [])] (0) (jret (fun v9 Ψ => v9 = some (.int (iI (scmp cs ds))) ∧ Ψ = [])) := by
  refine jS_of (plainFor_of_name (by decide)) rfl rfl rfl (Nat.le_of_ble_eq_true rfl) (fun X => ?_)
  show jT mJ6_compareTo l G _ _ _ X [ia v 0 (lu cs ++ []), ia w 0 (lu ds ++ [])] 0 [(0, .ref v), (1, .ref w)] [] _
  refine jlv_aload_n dJ6_compareTo_0 rfl 0 rfl ?_
  refine jr_callS [.ref v] (sp_U_length l G true v (lu cs ++ []) cs.length (by rw [List.append_nil, lu_len]; omega) (by rw [List.append_nil, lu_len]; omega)) (rest := []) q497 q498 q82 oJ6_length pJ6_length (by decide) (by decide) (Nat.le_of_ble_eq_true rfl) [0, 0, 1] [0] rfl ⟨⟨_, rfl, jpers_A⟩, trivial⟩ (Φr := [ia v 0 (lu cs ++ []), ia w 0 (lu ds ++ [])]) rfl (by first | omega | exact Nat.zero_le _) dJ6_compareTo_1 (fun v9 Ψ hq => ?_) (fun _ _ hq => hq.elim)
  obtain ⟨rfl, rfl⟩ := hq
  show jT mJ6_compareTo l G _ _ _ X [ia v 0 (lu cs ++ []), ia v 0 (lu cs ++ []), ia w 0 (lu ds ++ [])] 4 [(0, .ref v), (1, .ref w)] [.int (iI (cs.length : Int))] _
  refine jlv_istore_n (lv' := [(2, .int (iI (cs.length : Int))), (0, .ref v), (1, .ref w)]) dJ6_compareTo_4 rfl (by decide) rfl ?_
  refine jlv_aload_n dJ6_compareTo_5 rfl 2 rfl ?_
  refine jr_callS [.ref w] (sp_U_length l G true w (lu ds ++ []) ds.length (by rw [List.append_nil, lu_len]; omega) (by rw [List.append_nil, lu_len]; omega)) (rest := []) q497 q498 q82 oJ6_length pJ6_length (by decide) (by decide) (Nat.le_of_ble_eq_true rfl) [2, 0, 1, 2] [2] rfl ⟨⟨_, rfl, jpers_A⟩, trivial⟩ (Φr := [ia v 0 (lu cs ++ []), ia v 0 (lu cs ++ []), ia w 0 (lu ds ++ [])]) rfl (by first | omega | exact Nat.zero_le _) dJ6_compareTo_6 (fun v9 Ψ hq => ?_) (fun _ _ hq => hq.elim)
  obtain ⟨rfl, rfl⟩ := hq
  show jT mJ6_compareTo l G _ _ _ X [ia w 0 (lu ds ++ []), ia v 0 (lu cs ++ []), ia v 0 (lu cs ++ []), ia w 0 (lu ds ++ [])] 9 [(2, .int (iI (cs.length : Int))), (0, .ref v), (1, .ref w)] [.int (iI (ds.length : Int))] _
  refine jlv_istore_n (lv' := [(3, .int (iI (ds.length : Int))), (2, .int (iI (cs.length : Int))), (0, .ref v), (1, .ref w)]) dJ6_compareTo_9 rfl (by decide) rfl ?_
  refine jlv_aload_n dJ6_compareTo_10 rfl 2 rfl ?_
  refine jlv_aload_n dJ6_compareTo_11 rfl 3 rfl ?_
  refine jlv_iload_n dJ6_compareTo_12 rfl 1 rfl ?_
  refine jlv_iload_n dJ6_compareTo_13 rfl 0 rfl ?_
  refine jr_callS [.ref v, .ref w, .int (iI (cs.length : Int)), .int (iI (ds.length : Int))] (sp_U_compareValues l G v cs w ds (hb) (hb2) (hl) (hl2)) (rest := []) q3646 q3647 q82 oJ6_compareValues pJ6_compareValues (by decide) (by decide) (Nat.le_of_ble_eq_true rfl) [1, 0, 0, 1, 2, 3] [0, 1] rfl ⟨⟨_, rfl, jpers_A⟩, ⟨⟨_, rfl, jpers_A⟩, trivial⟩⟩ (Φr := [ia w 0 (lu ds ++ []), ia v 0 (lu cs ++ []), ia v 0 (lu cs ++ []), ia w 0 (lu ds ++ [])]) rfl (by first | omega | exact Nat.zero_le _) dJ6_compareTo_14 (fun v9 Ψ hq => ?_) (fun _ _ hq => hq.elim)
  obtain ⟨rfl, rfl⟩ := hq
  show jT mJ6_compareTo l G _ _ _ X [ia w 0 (lu ds ++ []), ia v 0 (lu cs ++ []), ia v 0 (lu cs ++ []), ia w 0 (lu ds ++ [])] 17 [(3, .int (iI (ds.length : Int))), (2, .int (iI (cs.length : Int))), (0, .ref v), (1, .ref w)] [.int (iI (scmp cs ds))] _
  exact jr_zret dJ6_compareTo_17 rfl rfl (Ψ := []) ⟨rfl, rfl⟩ (js_pickP [] [] rfl trivial rfl)

abbrev mJ16_compareToUTF16 : jM := (cJ16_compareToUTF16, RJ16, 4, (Option.some FieldType.int), "compareToUTF16", none)
theorem oJ16_compareToUTF16 : jcode yJ16_compareToUTF16 mJ16_compareToUTF16 := q3651
theorem pJ16_compareToUTF16 : jpar yJ16_compareToUTF16 2 := ⟨by decide +kernel, by decide +kernel, by decide +kernel⟩
theorem sp_L1_compareToU (l : Launch) (G : jG) (v : Nat) (cs : List Nat) (w : Nat) (ds : List Nat) (hb : ∀ c ∈ cs, c < 256) (hb2 : ∀ c ∈ ds, c < 65536) (hl : cs.length ≤ 400000) (hl2 : ds.length ≤ 400000) : jS l G yJ16_compareToUTF16 mJ16_compareToUTF16 5 [.ref v, .ref w] [ia v 0 (lb cs), ia w 0 (lu ds ++ [])] (0) (jret (fun v9 Ψ => v9 = some (.int (iI (scmp cs ds))) ∧ Ψ = [])) := by
  refine jS_of (plainFor_of_name (by decide)) rfl rfl rfl (Nat.le_of_ble_eq_true rfl) (fun X => ?_)
  show jT mJ16_compareToUTF16 l G _ _ _ X [ia v 0 (lb cs), ia w 0 (lu ds ++ [])] 0 [(0, .ref v), (1, .ref w)] [] _
  refine jlv_aload_n dJ16_compareToUTF16_0 rfl 0 rfl ?_
  refine jr_callS [.ref v] (sp_L1_length l G true v cs) (rest := []) q3652 q3653 q95 oJ16_length pJ16_length (by decide) (by decide) (Nat.le_of_ble_eq_true rfl) [0, 0, 1] [0] rfl ⟨⟨_, rfl, jpers_A⟩, trivial⟩ (Φr := [ia v 0 (lb cs), ia w 0 (lu ds ++ [])]) rfl (by first | omega | exact Nat.zero_le _) dJ16_compareToUTF16_1 (fun v9 Ψ hq => ?_) (fun _ _ hq => hq.elim)
  obtain ⟨rfl, rfl⟩ := hq
  show jT mJ16_compareToUTF16 l G _ _ _ X [ia v 0 (lb cs), ia v 0 (lb cs), ia w 0 (lu ds ++ [])] 4 [(0, .ref v), (1, .ref w)] [.int (iI (cs.length : Int))] _
  refine jlv_istore_n (lv' := [(2, .int (iI (cs.length : Int))), (0, .ref v), (1, .ref w)]) dJ16_compareToUTF16_4 rfl (by decide) rfl ?_
  refine jlv_aload_n dJ16_compareToUTF16_5 rfl 2 rfl ?_
  refine jr_callS [.ref w] (sp_U_length l G true w (lu ds ++ []) ds.length (by rw [List.append_nil, lu_len]; omega) (by rw [List.append_nil, lu_len]; omega)) (rest := []) q3655 q498 q82 oJ6_length pJ6_length (by decide) (by decide) (Nat.le_of_ble_eq_true rfl) [2, 0, 1, 2] [2] rfl ⟨⟨_, rfl, jpers_A⟩, trivial⟩ (Φr := [ia v 0 (lb cs), ia v 0 (lb cs), ia w 0 (lu ds ++ [])]) rfl (by first | omega | exact Nat.zero_le _) dJ16_compareToUTF16_6 (fun v9 Ψ hq => ?_) (fun _ _ hq => hq.elim)
  obtain ⟨rfl, rfl⟩ := hq
  show jT mJ16_compareToUTF16 l G _ _ _ X [ia w 0 (lu ds ++ []), ia v 0 (lb cs), ia v 0 (lb cs), ia w 0 (lu ds ++ [])] 9 [(2, .int (iI (cs.length : Int))), (0, .ref v), (1, .ref w)] [.int (iI (ds.length : Int))] _
  refine jlv_istore_n (lv' := [(3, .int (iI (ds.length : Int))), (2, .int (iI (cs.length : Int))), (0, .ref v), (1, .ref w)]) dJ16_compareToUTF16_9 rfl (by decide) rfl ?_
  refine jlv_aload_n dJ16_compareToUTF16_10 rfl 2 rfl ?_
  refine jlv_aload_n dJ16_compareToUTF16_11 rfl 3 rfl ?_
  refine jlv_iload_n dJ16_compareToUTF16_12 rfl 1 rfl ?_
  refine jlv_iload_n dJ16_compareToUTF16_13 rfl 0 rfl ?_
  refine jr_callS [.ref v, .ref w, .int (iI (cs.length : Int)), .int (iI (ds.length : Int))] (sp_L1_compareValues l G v cs w ds (hb) (hb2) (hl) (hl2)) (rest := []) q3656 q3657 q95 oJ16_compareToUTF16Values pJ16_compareToUTF16Values (by decide) (by decide) (Nat.le_of_ble_eq_true rfl) [1, 0, 0, 1, 2, 3] [0, 1] rfl ⟨⟨_, rfl, jpers_A⟩, ⟨⟨_, rfl, jpers_A⟩, trivial⟩⟩ (Φr := [ia w 0 (lu ds ++ []), ia v 0 (lb cs), ia v 0 (lb cs), ia w 0 (lu ds ++ [])]) rfl (by first | omega | exact Nat.zero_le _) dJ16_compareToUTF16_14 (fun v9 Ψ hq => ?_) (fun _ _ hq => hq.elim)
  obtain ⟨rfl, rfl⟩ := hq
  show jT mJ16_compareToUTF16 l G _ _ _ X [ia w 0 (lu ds ++ []), ia v 0 (lb cs), ia v 0 (lb cs), ia w 0 (lu ds ++ [])] 17 [(3, .int (iI (ds.length : Int))), (2, .int (iI (cs.length : Int))), (0, .ref v), (1, .ref w)] [.int (iI (scmp cs ds))] _
  exact jr_zret dJ16_compareToUTF16_17 rfl rfl (Ψ := []) ⟨rfl, rfl⟩ (js_pickP [] [] rfl trivial rfl)

abbrev mJ6_compareToLatin1 : jM := (cJ6_compareToLatin1, RJ6, 2, (Option.some FieldType.int), "compareToLatin1", none)
theorem oJ6_compareToLatin1 : jcode yJ6_compareToLatin1 mJ6_compareToLatin1 := q3662
theorem pJ6_compareToLatin1 : jpar yJ6_compareToLatin1 2 := ⟨by decide +kernel, by decide +kernel, by decide +kernel⟩
theorem sp_U_compareToL1 (l : Launch) (G : jG) (v : Nat) (cs : List Nat) (w : Nat) (ds : List Nat) (hb : ∀ c ∈ cs, c < 65536) (hb2 : ∀ c ∈ ds, c < 256) (hl : cs.length ≤ 400000) (hl2 : ds.length ≤ 400000) : jS l G yJ6_compareToLatin1 mJ6_compareToLatin1 6 [.ref v, .ref w] [ia v 0 (lu cs ++ []), ia w 0 (lb ds)] (0) (jret (fun v9 Ψ => v9 = some (.int (iI (scmp cs ds))) ∧ Ψ = [])) := by
  refine jS_of (plainFor_of_name (by decide)) rfl rfl rfl (Nat.le_of_ble_eq_true rfl) (fun X => ?_)
  show jT mJ6_compareToLatin1 l G _ _ _ X [ia v 0 (lu cs ++ []), ia w 0 (lb ds)] 0 [(0, .ref v), (1, .ref w)] [] _
  refine jlv_aload_n dJ6_compareToLatin1_0 rfl 1 rfl ?_
  refine jlv_aload_n dJ6_compareToLatin1_1 rfl 0 rfl ?_
  refine jr_callS [.ref w, .ref v] (sp_L1_compareToU l G w ds v cs (hb2) (hb) (hl2) (hl)) (rest := []) q3663 q3650 q95 oJ16_compareToUTF16 pJ16_compareToUTF16 (by decide) (by decide) (Nat.le_of_ble_eq_true rfl) [1, 0, 0, 1] [0, 1] rfl ⟨⟨_, rfl, jpers_A⟩, ⟨⟨_, rfl, jpers_A⟩, trivial⟩⟩ (Φr := [ia v 0 (lu cs ++ []), ia w 0 (lb ds)]) rfl (by first | omega | exact Nat.zero_le _) dJ6_compareToLatin1_2 (fun v9 Ψ hq => ?_) (fun _ _ hq => hq.elim)
  obtain ⟨rfl, rfl⟩ := hq
  show jT mJ6_compareToLatin1 l G _ _ _ X [ia v 0 (lu cs ++ []), ia w 0 (lb ds)] 5 [(0, .ref v), (1, .ref w)] [.int (iI (scmp ds cs))] _
  refine ji_ineg (scmp cs ds) (scmp_neg ds cs) dJ6_compareToLatin1_5 ?_
  exact jr_zret dJ6_compareToLatin1_6 rfl rfl (Ψ := []) ⟨rfl, rfl⟩ (js_pickP [] [] rfl trivial rfl)

