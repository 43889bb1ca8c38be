set_option maxRecDepth 100000
/-- bytes -/
def jfit (L : List Value) : Prop := ∀ x ∈ L, ∃ z : Int32, x = .int z ∧ fits .byte (.int z) = true
theorem jfit_at {L : List Value} {q : Nat} (h : jfit L) (hq : q < L.length) : ∃ z : Int32, L[q]? = some (.int z) ∧ fits .byte (.int z) = true := by
  obtain ⟨z, h1, h2⟩ := h _ (List.getElem_mem hq)
  exact ⟨z, by rw [List.getElem?_eq_getElem hq, h1], h2⟩
theorem jfit_f {L : List Value} {q : Nat} {w : Value} (h : jfit L) (hq : L[q]? = some w) : fits .byte w = true := by
  obtain ⟨z, h1, h2⟩ := h _ (List.mem_of_getElem? hq)
  rw [h1]; exact h2
theorem jfit_lb {cs : List Nat} (h : ∀ c ∈ cs, c < 256) : jfit (lb cs) := fun x hx => by
  obtain ⟨c, hc, rfl⟩ := List.mem_map.mp hx
  exact ⟨_, rfl, sb_fits c (h c hc)⟩
theorem jfit_app {L L' : List Value} (h : jfit L) (h' : jfit L') : jfit (L ++ L') := fun x hx => (List.mem_append.mp hx).elim (h x) (h' x)
theorem jfit_rep (n : Nat) : jfit (List.replicate n (.int (iI 0))) := fun x hx => ⟨iI 0, (List.mem_replicate.mp hx).2, by decide⟩
theorem jcpy_b {L : List Value} {x N : Nat} (h : x + N ≤ L.length) : jcpy L (List.replicate N (.int (iI 0))) x 0 N = (L.drop x).take N := by
  unfold jcpy
  rw [List.take_zero, List.nil_append, List.drop_of_length_le (l := List.replicate N _) (by rw [List.length_replicate, Nat.zero_add]; exact Nat.le_refl _), List.append_nil]
theorem jcpy_b2 {L : List Value} {n : Nat} (h : L.length ≤ n) : jcpy L (List.replicate n (.int (iI 0))) 0 0 L.length = L ++ List.replicate (n - L.length) (.int (iI 0)) := by
  unfold jcpy
  rw [List.take_zero, List.nil_append, List.drop_zero, List.take_length, List.drop_replicate, Nat.zero_add]
theorem lb_sub {cs : List Nat} {x n : Nat} : ((lb cs).drop x).take n = lb ((cs.drop x).take n) := by simp [lb, List.map_take, List.map_drop]
abbrev mJ9_checkLength : jM := (cJ9_checkLength, RJ9, 2, (Option.none : Option FieldType), "checkLength", none)
theorem oJ9_checkLength : jcode yJ9_checkLength mJ9_checkLength := q621
theorem pJ9_checkLength : jpar yJ9_checkLength 2 := ⟨by decide +kernel, by decide +kernel, by decide +kernel⟩
theorem sp_checkLength (l : Launch) (G : jG) (x : Nat) (y : Nat) (h : x ≤ y) (hy : y ≤ 2147483647) : jS l G yJ9_checkLength mJ9_checkLength 1 [.int (iI (x : Int)), .int (iI (y : Int))] [] (0) (jret (fun v9 Ψ => v9 = none ∧ Ψ = [])) := by
  refine jS_of (plainFor_of_name (by decide)) rfl rfl rfl (Nat.le_of_ble_eq_true rfl) (fun X => ?_)
  show jT mJ9_checkLength l G _ _ _ X [] 0 [(0, .int (iI (x : Int))), (1, .int (iI (y : Int)))] [] _
  refine jlv_iload_n dJ9_checkLength_0 rfl 1 rfl ?_
  refine jlv_iload_n dJ9_checkLength_1 rfl 0 rfl ?_
  refine ji_icmp_ge 37 (by omega) (by omega) dJ9_checkLength_2 (by decide) (fun h_46 => ?_) (fun h_46 => absurd h_46 (by omega))
  exact jr_vret dJ9_checkLength_37 rfl (Ψ := []) ⟨rfl, rfl⟩ (js_pickP [] [] rfl trivial rfl)

abbrev mJ9_copyOfRangeByte : jM := (cJ9_copyOfRangeByte, RJ9, 5, (Option.some (FieldType.array FieldType.byte)), "copyOfRangeByte", none)
theorem oJ9_copyOfRangeByte : jcode yJ9_copyOfRangeByte mJ9_copyOfRangeByte := q618
theorem pJ9_copyOfRangeByte : jpar yJ9_copyOfRangeByte 3 := ⟨by decide +kernel, by decide +kernel, by decide +kernel⟩
theorem sp_copyRB (l : Launch) (G : jG) (f : Bool) (v : Nat) (L : List Value) (x : Nat) (y : Nat) (hxy : x ≤ y) (hyL : y ≤ L.length) (hL : L.length ≤ 2000000) (hf : jfit L) : jS l G yJ9_copyOfRangeByte mJ9_copyOfRangeByte 2 [.ref v, .int (iI (x : Int)), .int (iI (y : Int))] [jA f v ((1, 0), L)] ((y - x + 7) / 4) (jret (fun v9 Ψ => ∃ r : Nat, v9 = some (.ref r) ∧ Ψ = [jA f v ((1, 0), L), oa r 0 ((L.drop x).take (y - x))])) := by
  refine jS_of (plainFor_of_name (by decide)) rfl rfl rfl (Nat.le_of_ble_eq_true rfl) (fun X => ?_)
  show jT mJ9_copyOfRangeByte l G _ _ _ X [jA f v ((1, 0), L)] 0 [(0, .ref v), (1, .int (iI (x : Int))), (2, .int (iI (y : Int)))] [] _
  refine jlv_iload_n dJ9_copyOfRangeByte_0 rfl 1 rfl ?_
  refine jlv_iload_n dJ9_copyOfRangeByte_1 rfl 2 rfl ?_
  refine jr_callS [.int (iI (x : Int)), .int (iI (y : Int))] (sp_checkLength l G x y (hxy) (by omega)) (rest := []) q619 q620 q86 oJ9_checkLength pJ9_checkLength (by decide) (by decide) (Nat.le_of_ble_eq_true rfl) [0] [] rfl trivial (Φr := [jA f v ((1, 0), L)]) rfl (by first | omega | exact Nat.zero_le _) dJ9_copyOfRangeByte_2 (fun v9 Ψ hq => ?_) (fun _ _ hq => hq.elim)
  obtain ⟨rfl, rfl⟩ := hq
  show jT mJ9_copyOfRangeByte l G _ _ _ X [jA f v ((1, 0), L)] 5 [(0, .ref v), (1, .int (iI (x : Int))), (2, .int (iI (y : Int)))] [] _
  refine jlv_iload_n dJ9_copyOfRangeByte_5 rfl 2 rfl ?_
  refine jlv_iload_n dJ9_copyOfRangeByte_6 rfl 1 rfl ?_
  refine ji_isub ((y : Int) - (x : Int)) (by omega) dJ9_copyOfRangeByte_7 ?_
  refine jlv_istore_n (lv' := [(3, .int (iI ((y : Int) - (x : Int)))), (0, .ref v), (1, .int (iI (x : Int))), (2, .int (iI (y : Int)))]) dJ9_copyOfRangeByte_8 rfl (by decide) rfl ?_
  refine jlv_iload_n dJ9_copyOfRangeByte_9 rfl 0 rfl ?_
  refine jt_eq (st' := [.int (iI ((y - x : Nat) : Int))]) (lv' := [(3, .int (iI ((y : Int) - (x : Int)))), (0, .ref v), (1, .int (iI (x : Int))), (2, .int (iI (y : Int)))]) (by first | rfl | rw [show (y : Int) - (x : Int) = ((y - x : Nat) : Int) by omega]) rfl ?_
  refine jr_newa (atype := .byte) (ty := .byte) q233 0 rfl rfl (fun c => (by intro z; cases z)) (N := (y - x)) (iI_eqn (by omega) (by omega)) (by show _ * 1 ≤ _; omega) (u := (y - x + 7) / 4) (by omega) (by omega) (by omega) dJ9_copyOfRangeByte_10 (fun r => ?_)
  refine jt_eq (st' := [.ref r]) (lv' := [(3, .int (iI ((y - x : Nat) : Int))), (0, .ref v), (1, .int (iI (x : Int))), (2, .int (iI (y : Int)))]) rfl (by first | rfl | rw [show (y : Int) - (x : Int) = ((y - x : Nat) : Int) by omega]) ?_
  refine jlv_astore (lv' := [(4, .ref r), (3, .int (iI ((y - x : Nat) : Int))), (0, .ref v), (1, .int (iI (x : Int))), (2, .int (iI (y : Int)))]) dJ9_copyOfRangeByte_12 (by decide) rfl ?_
  refine jlv_aload_n dJ9_copyOfRangeByte_14 rfl 2 rfl ?_
  refine jlv_iload_n dJ9_copyOfRangeByte_15 rfl 3 rfl ?_
  refine jlv_aload dJ9_copyOfRangeByte_16 0 rfl ?_
  refine jlv_iconst (v := iI 0) dJ9_copyOfRangeByte_18 rfl ?_
  refine jlv_aload_n dJ9_copyOfRangeByte_19 rfl 2 rfl ?_
  refine jr_alen 1 rfl (ty := .byte) rfl dJ9_copyOfRangeByte_20 (n := iI (L.length : Int)) (by rw [show _ = _ from (rfl : L.length = _)]; rfl) ?_
  refine jlv_iload_n dJ9_copyOfRangeByte_21 rfl 3 rfl ?_
  refine ji_isub ((L.length : Int) - (x : Int)) (by omega) dJ9_copyOfRangeByte_22 ?_
  refine jlv_iload_n dJ9_copyOfRangeByte_23 rfl 1 rfl ?_
  refine jr_mmin ((y - x : Nat) : Int) (by omega) (by omega) (by omega) q361 q362 q85 q363 (by decide) (Nat.le_of_ble_eq_true rfl) dJ9_copyOfRangeByte_24 ?_
  refine jr_copyb q364 q366 q365 q88 (by decide) 1 0 rfl rfl (vs := L) (ws := (List.replicate (y - x) (.int (iI 0)))) (sp := x) (dp := 0) (n := (y - x)) (iI_eqn (by omega) (by omega)) (by decide) (iI_eqn (by omega) (by omega)) (by first | omega | (simp only [List.length_replicate]; omega)) (by first | omega | (simp only [List.length_replicate]; omega)) (fun q hq => jfit_at hf (by omega)) (Nat.le_of_ble_eq_true rfl) dJ9_copyOfRangeByte_27 (Φ' := [oa r 0 ((L.drop x).take (y - x)), jA f v ((1, 0), L)]) (by rw [jcpy_b (by omega)]; rfl) ?_
  refine jlv_aload dJ9_copyOfRangeByte_30 0 rfl ?_
  exact jr_aret dJ9_copyOfRangeByte_32 rfl (Or.inr ⟨_, rfl⟩) (Or.inr ⟨_, rfl⟩) (Ψ := [jA f v ((1, 0), L), oa r 0 ((L.drop x).take (y - x))]) ⟨r, rfl, rfl⟩ (js_pickP [1, 0] [] rfl trivial rfl)

abbrev mJ9_copyOfRange : jM := (cJ9_copyOfRange, RJ9, 3, (Option.some (FieldType.array FieldType.byte)), "copyOfRange", none)
theorem oJ9_copyOfRange : jcode yJ9_copyOfRange mJ9_copyOfRange := q615
theorem pJ9_copyOfRange : jpar yJ9_copyOfRange 3 := ⟨by decide +kernel, by decide +kernel, by decide +kernel⟩
theorem sp_copyR (l : Launch) (G : jG) (f : Bool) (v : Nat) (L : List Value) (x : Nat) (y : Nat) (hxy : x ≤ y) (hyL : y ≤ L.length) (hL : L.length ≤ 2000000) (hf : jfit L) : jS l G yJ9_copyOfRange mJ9_copyOfRange 3 [.ref v, .int (iI (x : Int)), .int (iI (y : Int))] [jA f v ((1, 0), L)] ((y - x + 7) / 4) (jret (fun v9 Ψ => ∃ r : Nat, v9 = some (.ref r) ∧ Ψ = [jA f v ((1, 0), L), oa r 0 ((L.drop x).take (y - x))])) := by
  refine jS_of (plainFor_of_name (by decide)) rfl rfl rfl (Nat.le_of_ble_eq_true rfl) (fun X => ?_)
  show jT mJ9_copyOfRange l G _ _ _ X [jA f v ((1, 0), L)] 0 [(0, .ref v), (1, .int (iI (x : Int))), (2, .int (iI (y : Int)))] [] _
  refine jlv_iload_n dJ9_copyOfRange_0 rfl 1 rfl ?_
  refine ji_if_ne 10 (by omega) dJ9_copyOfRange_1 (by decide) (fun h_47 => ?_) (fun h_47 => ?_)
  · skip
    refine jlv_aload_n dJ9_copyOfRange_10 rfl 0 rfl ?_
    refine jlv_iload_n dJ9_copyOfRange_11 rfl 1 rfl ?_
    refine jlv_iload_n dJ9_copyOfRange_12 rfl 2 rfl ?_
    refine jr_callS [.ref v, .int (iI (x : Int)), .int (iI (y : Int))] (sp_copyRB l G f v L x y (hxy) (hyL) (hL) (hf)) (rest := []) q616 q617 q86 oJ9_copyOfRangeByte pJ9_copyOfRangeByte (by decide) (by decide) (Nat.le_of_ble_eq_true rfl) [0] [] rfl trivial (Φr := []) rfl (by first | omega | exact Nat.zero_le _) dJ9_copyOfRange_13 (fun v9 Ψ hq => ?_) (fun _ _ hq => hq.elim)
    obtain ⟨r, rfl, rfl⟩ := hq
    show jT mJ9_copyOfRange l G _ _ _ X [jA f v ((1, 0), L), oa r 0 ((L.drop x).take (y - x))] 16 [(0, .ref v), (1, .int (iI (x : Int))), (2, .int (iI (y : Int)))] [.ref r] _
    exact jr_aret dJ9_copyOfRange_16 rfl (Or.inr ⟨_, rfl⟩) (Or.inr ⟨_, rfl⟩) (Ψ := [jA f v ((1, 0), L), oa r 0 ((L.drop x).take (y - x))]) ⟨r, rfl, rfl⟩ (js_pickP [0, 1] [] rfl trivial rfl)
  · skip
    refine jlv_iload_n dJ9_copyOfRange_4 rfl 2 rfl ?_
    refine jlv_aload_n dJ9_copyOfRange_5 rfl 0 rfl ?_
    refine jr_alen 0 rfl (ty := .byte) rfl dJ9_copyOfRange_6 (n := iI (L.length : Int)) (by rw [show _ = _ from (rfl : L.length = _)]; rfl) ?_
    refine ji_icmp_eq 17 (by omega) (by omega) dJ9_copyOfRange_7 (by decide) (fun h_48 => ?_) (fun h_48 => ?_)
    · skip
      refine jlv_aload_n dJ9_copyOfRange_17 rfl 0 rfl ?_
      refine jr_cloneB 0 rfl q479 q480 q481 q482 q483 (List.mem_of_getElem? (i := 26) rfl) (by decide) (fun q w hw => jfit_f hf hw) (u := (y - x + 7) / 4) (by omega) (by omega) (by omega) (Nat.le_of_ble_eq_true rfl) dJ9_copyOfRange_18 (fun r => ?_)
      have hx0 : x = 0 := by omega
      have hy0 : y = L.length := by omega
      have hLL : L = (L.drop x).take (y - x) := by rw [hx0, hy0, List.drop_zero, Nat.sub_zero, List.take_length]
      refine jr_castB 0 rfl q485 dJ9_copyOfRange_21 ?_
      refine jt_same 0 (P := oa r 0 L) (P' := oa r 0 ((L.drop x).take (y - x))) rfl (by rw [← hLL]) (Φ' := [oa r 0 ((L.drop x).take (y - x)), jA f v ((1, 0), L)]) rfl ?_
      exact jr_aret dJ9_copyOfRange_24 rfl (Or.inr ⟨_, rfl⟩) (Or.inr ⟨_, rfl⟩) (Ψ := [jA f v ((1, 0), L), oa r 0 ((L.drop x).take (y - x))]) ⟨r, rfl, rfl⟩ (js_pickP [1, 0] [] rfl trivial rfl)
    · skip
      refine jlv_aload_n dJ9_copyOfRange_10 rfl 0 rfl ?_
      refine jlv_iload_n dJ9_copyOfRange_11 rfl 1 rfl ?_
      refine jlv_iload_n dJ9_copyOfRange_12 rfl 2 rfl ?_
      refine jr_callS [.ref v, .int (iI (x : Int)), .int (iI (y : Int))] (sp_copyRB l G f v L x y (hxy) (hyL) (hL) (hf)) (rest := []) q616 q617 q86 oJ9_copyOfRangeByte pJ9_copyOfRangeByte (by decide) (by decide) (Nat.le_of_ble_eq_true rfl) [0] [] rfl trivial (Φr := []) rfl (by first | omega | exact Nat.zero_le _) dJ9_copyOfRange_13 (fun v9 Ψ hq => ?_) (fun _ _ hq => hq.elim)
      obtain ⟨r, rfl, rfl⟩ := hq
      show jT mJ9_copyOfRange l G _ _ _ X [jA f v ((1, 0), L), oa r 0 ((L.drop x).take (y - x))] 16 [(0, .ref v), (1, .int (iI (x : Int))), (2, .int (iI (y : Int)))] [.ref r] _
      exact jr_aret dJ9_copyOfRange_16 rfl (Or.inr ⟨_, rfl⟩) (Or.inr ⟨_, rfl⟩) (Ψ := [jA f v ((1, 0), L), oa r 0 ((L.drop x).take (y - x))]) ⟨r, rfl, rfl⟩ (js_pickP [0, 1] [] rfl trivial rfl)

abbrev mJ9_copyOf_3 : jM := (cJ9_copyOf_3, RJ9, 3, (Option.some (FieldType.array FieldType.byte)), "copyOf", none)
theorem oJ9_copyOf_3 : jcode yJ9_copyOf_3 mJ9_copyOf_3 := q478
theorem pJ9_copyOf_3 : jpar yJ9_copyOf_3 2 := ⟨by decide +kernel, by decide +kernel, by decide +kernel⟩
theorem sp_copyOfB (l : Launch) (G : jG) (f : Bool) (v : Nat) (L : List Value) (n : Nat) (hn : L.length < n) (hn2 : n ≤ 3000000) (hf : jfit L) : jS l G yJ9_copyOf_3 mJ9_copyOf_3 2 [.ref v, .int (iI (n : Int))] [jA f v ((1, 0), L)] ((n + 7) / 4) (jret (fun v9 Ψ => ∃ r : Nat, v9 = some (.ref r) ∧ Ψ = [jA f v ((1, 0), L), oa r 0 (L ++ List.replicate (n - L.length) (.int (iI 0)))])) := by
  refine jS_of (plainFor_of_name (by decide)) rfl rfl rfl (Nat.le_of_ble_eq_true rfl) (fun X => ?_)
  show jT mJ9_copyOf_3 l G _ _ _ X [jA f v ((1, 0), L)] 0 [(0, .ref v), (1, .int (iI (n : Int)))] [] _
  refine jlv_iload_n dJ9_copyOf_3_0 rfl 1 rfl ?_
  refine jlv_aload_n dJ9_copyOf_3_1 rfl 0 rfl ?_
  refine jr_alen 0 rfl (ty := .byte) rfl dJ9_copyOf_3_2 (n := iI (L.length : Int)) (by rw [show _ = _ from (rfl : L.length = _)]; rfl) ?_
  refine ji_icmp_ne 14 (by omega) (by omega) dJ9_copyOf_3_3 (by decide) (fun h_49 => ?_) (fun h_49 => absurd h_49 (by omega))
  refine jlv_iload_n dJ9_copyOf_3_14 rfl 1 rfl ?_
  refine jr_newa (atype := .byte) (ty := .byte) q233 0 rfl rfl (fun c => (by intro z; cases z)) (N := n) (iI_eqn (by omega) (by omega)) (by show _ * 1 ≤ _; omega) (u := (n + 7) / 4) (by omega) (by omega) (by omega) dJ9_copyOf_3_15 (fun r => ?_)
  refine jlv_astore_n (lv' := [(2, .ref r), (0, .ref v), (1, .int (iI (n : Int)))]) dJ9_copyOf_3_17 rfl (by decide) rfl ?_
  refine jlv_aload_n dJ9_copyOf_3_18 rfl 1 rfl ?_
  refine jlv_iconst (v := iI 0) dJ9_copyOf_3_19 rfl ?_
  refine jlv_aload_n dJ9_copyOf_3_20 rfl 0 rfl ?_
  refine jlv_iconst (v := iI 0) dJ9_copyOf_3_21 rfl ?_
  refine jlv_aload_n dJ9_copyOf_3_22 rfl 1 rfl ?_
  refine jr_alen 1 rfl (ty := .byte) rfl dJ9_copyOf_3_23 (n := iI (L.length : Int)) (by rw [show _ = _ from (rfl : L.length = _)]; rfl) ?_
  refine jlv_iload_n dJ9_copyOf_3_24 rfl 2 rfl ?_
  refine jr_mmin (L.length : Int) (by omega) (by omega) (by omega) q361 q362 q85 q363 (by decide) (Nat.le_of_ble_eq_true rfl) dJ9_copyOf_3_25 ?_
  refine jr_copyb q364 q366 q365 q88 (by decide) 1 0 rfl rfl (vs := L) (ws := (List.replicate n (.int (iI 0)))) (sp := 0) (dp := 0) (n := L.length) (by decide) (by decide) (iI_eqn (by omega) (by omega)) (by first | omega | (simp only [List.length_replicate]; omega)) (by first | omega | (simp only [List.length_replicate]; omega)) (fun q hq => jfit_at hf (by omega)) (Nat.le_of_ble_eq_true rfl) dJ9_copyOf_3_28 (Φ' := [oa r 0 (L ++ List.replicate (n - L.length) (.int (iI 0))), jA f v ((1, 0), L)]) (by rw [jcpy_b2 (by omega)]; rfl) ?_
  refine jlv_aload_n dJ9_copyOf_3_31 rfl 0 rfl ?_
  exact jr_aret dJ9_copyOf_3_32 rfl (Or.inr ⟨_, rfl⟩) (Or.inr ⟨_, rfl⟩) (Ψ := [jA f v ((1, 0), L), oa r 0 (L ++ List.replicate (n - L.length) (.int (iI 0)))]) ⟨r, rfl, rfl⟩ (js_pickP [1, 0] [] rfl trivial rfl)

abbrev mJ5_init_3 : jM := (cJ5_init_3, RJ5, 3, (Option.none : Option FieldType), "<init>", none)
theorem oJ5_init_3 : jcode yJ5_init_3 mJ5_init_3 := q2312
theorem pJ5_init_3 : jpar yJ5_init_3 2 := ⟨by decide +kernel, by decide +kernel, by decide +kernel⟩
theorem sp_S_initB (l : Launch) (G : jG) (a : Nat) (v : Nat) : jS l G yJ5_init_3 mJ5_init_3 2 [.ref a, .ref v, .int (iI 0)] [ow a 2 [.null, .int (iI 0), .int (iI 0), .int (iI 0)]] (0) (jret (fun v9 Ψ => v9 = none ∧ Ψ = [ow a 2 [.ref v, .int (iI 0), .int (iI 0), .int (iI 0)]])) := by
  refine jS_of (plainFor_of_name (by decide)) rfl rfl rfl (Nat.le_of_ble_eq_true rfl) (fun X => ?_)
  show jT mJ5_init_3 l G _ _ _ X [ow a 2 [.null, .int (iI 0), .int (iI 0), .int (iI 0)]] 0 [(0, .ref a), (1, .ref v), (2, .int (iI 0))] [] _
  refine jlv_aload_n dJ5_init_3_0 rfl 0 rfl ?_
  refine jr_objInit q598 q161 q162 (by decide) (Nat.le_of_ble_eq_true rfl) dJ5_init_3_1 ?_
  refine jlv_aload_n dJ5_init_3_4 rfl 0 rfl ?_
  refine jlv_aload_n dJ5_init_3_5 rfl 1 rfl ?_
  refine jr_putF 0 rfl rfl 0 q675 rfl rfl rfl rfl rfl rfl rfl dJ5_init_3_6 (Φ' := [ow a 2 [.ref v, .int (iI 0), .int (iI 0), .int (iI 0)]]) rfl ?_
  refine jlv_aload_n dJ5_init_3_9 rfl 0 rfl ?_
  refine jlv_iload_n dJ5_init_3_10 rfl 2 rfl ?_
  refine jr_putF 0 rfl rfl 1 q676 rfl rfl rfl rfl rfl rfl rfl dJ5_init_3_11 (Φ' := [ow a 2 [.ref v, .int (iI 0), .int (iI 0), .int (iI 0)]]) rfl ?_
  exact jr_vret dJ5_init_3_14 rfl (Ψ := [ow a 2 [.ref v, .int (iI 0), .int (iI 0), .int (iI 0)]]) ⟨rfl, rfl⟩ (js_pickP [0] [] rfl trivial rfl)

theorem sp_S_initB1 (l : Launch) (G : jG) (a : Nat) (v : Nat) : jS l G yJ5_init_3 mJ5_init_3 2 [.ref a, .ref v, .int (iI 1)] [ow a 2 [.null, .int (iI 0), .int (iI 0), .int (iI 0)]] (0) (jret (fun v9 Ψ => v9 = none ∧ Ψ = [ow a 2 [.ref v, .int (iI 1), .int (iI 0), .int (iI 0)]])) := by
  refine jS_of (plainFor_of_name (by decide)) rfl rfl rfl (Nat.le_of_ble_eq_true rfl) (fun X => ?_)
  show jT mJ5_init_3 l G _ _ _ X [ow a 2 [.null, .int (iI 0), .int (iI 0), .int (iI 0)]] 0 [(0, .ref a), (1, .ref v), (2, .int (iI 1))] [] _
  refine jlv_aload_n dJ5_init_3_0 rfl 0 rfl ?_
  refine jr_objInit q598 q161 q162 (by decide) (Nat.le_of_ble_eq_true rfl) dJ5_init_3_1 ?_
  refine jlv_aload_n dJ5_init_3_4 rfl 0 rfl ?_
  refine jlv_aload_n dJ5_init_3_5 rfl 1 rfl ?_
  refine jr_putF 0 rfl rfl 0 q675 rfl rfl rfl rfl rfl rfl rfl dJ5_init_3_6 (Φ' := [ow a 2 [.ref v, .int (iI 0), .int (iI 0), .int (iI 0)]]) rfl ?_
  refine jlv_aload_n dJ5_init_3_9 rfl 0 rfl ?_
  refine jlv_iload_n dJ5_init_3_10 rfl 2 rfl ?_
  refine jr_putF 0 rfl rfl 1 q676 rfl rfl rfl rfl rfl rfl rfl dJ5_init_3_11 (Φ' := [ow a 2 [.ref v, .int (iI 1), .int (iI 0), .int (iI 0)]]) rfl ?_
  exact jr_vret dJ5_init_3_14 rfl (Ψ := [ow a 2 [.ref v, .int (iI 1), .int (iI 0), .int (iI 0)]]) ⟨rfl, rfl⟩ (js_pickP [0] [] rfl trivial rfl)

abbrev mJ16_newString : jM := (cJ16_newString, RJ16, 3, (Option.some (FieldType.object "java/lang/String")), "newString", none)
theorem oJ16_newString : jcode yJ16_newString mJ16_newString := q2306
theorem pJ16_newString : jpar yJ16_newString 3 := ⟨by decide +kernel, by decide +kernel, by decide +kernel⟩
theorem sp_L1_newString (l : Launch) (G : jG) (v : Nat) (cs : List Nat) (x : Nat) (n : Nat) (hb : ∀ c ∈ cs, c < 256) (hl : cs.length ≤ 1000000) (hx : x + n ≤ cs.length) : jS l G yJ16_newString mJ16_newString 4 [.ref v, .int (iI (x : Int)), .int (iI (n : Int))] [ia v 0 (lb cs)] ((n + 7) / 4 + 1) (jret (fun v9 Ψ => ∃ r : Nat, v9 = some (.ref r) ∧ Ψ = [jLs r ((cs.drop x).take n)])) := by
  refine jS_of (plainFor_of_name (by decide)) rfl rfl rfl (Nat.le_of_ble_eq_true rfl) (fun X => ?_)
  show jT mJ16_newString l G _ _ _ X [ia v 0 (lb cs)] 0 [(0, .ref v), (1, .int (iI (x : Int))), (2, .int (iI (n : Int)))] [] _
  refine jlv_iload_n dJ16_newString_0 rfl 2 rfl ?_
  refine ji_if_ne 7 (by omega) dJ16_newString_1 (by decide) (fun h_50 => ?_) (fun h_50 => ?_)
  · skip
    refine jr_new (k0 := 2) rfl q2308 q591 q81 (fs := [.null, .int (iI 0), .int (iI 0), .int (iI 0)]) rfl (u := 1) (by decide) (by decide) (by omega) dJ16_newString_7 (fun r => ?_)
    refine jlv_dup dJ16_newString_10 rfl ?_
    refine jlv_aload_n dJ16_newString_11 rfl 0 rfl ?_
    refine jlv_iload_n dJ16_newString_12 rfl 1 rfl ?_
    refine jlv_iload_n dJ16_newString_13 rfl 1 rfl ?_
    refine jlv_iload_n dJ16_newString_14 rfl 2 rfl ?_
    refine ji_iadd ((x : Int) + (n : Int)) (by omega) dJ16_newString_15 ?_
    refine jr_callS [.ref v, .int (iI (x : Int)), .int (iI ((x : Int) + (n : Int)))] (sp_copyR l G true v (lb cs) x (x + n) (by omega) (by rw [lb_len]; omega) (by rw [lb_len]; omega) (jfit_lb hb)) (rest := [.ref r, .ref r]) q2309 q614 q86 oJ9_copyOfRange pJ9_copyOfRange (by decide) (by decide) (Nat.le_of_ble_eq_true rfl) [1, 0, 1] [1] rfl ⟨⟨_, rfl, jpers_A⟩, trivial⟩ (Φr := [ow r 2 [.null, .int (iI 0), .int (iI 0), .int (iI 0)], ia v 0 (lb cs)]) rfl (by first | omega | exact Nat.zero_le _) dJ16_newString_16 (fun v9 Ψ hq => ?_) (fun _ _ hq => hq.elim)
    obtain ⟨w, rfl, rfl⟩ := hq
    show jT mJ16_newString l G _ _ _ X [ia v 0 (lb cs), oa w 0 (((lb cs).drop x).take ((x + n) - x)), ow r 2 [.null, .int (iI 0), .int (iI 0), .int (iI 0)], ia v 0 (lb cs)] 19 [(0, .ref v), (1, .int (iI (x : Int))), (2, .int (iI (n : Int)))] [.ref w, .ref r, .ref r] _
    refine jlv_iconst (v := iI 0) dJ16_newString_19 rfl ?_
    refine jr_callI [.ref w, .int (iI 0)] (sp_S_initB l G r w) (rest := [.ref r]) rfl rfl rfl q2310 q2311 q81 oJ5_init_3 pJ5_init_3 (by decide) (by decide) (Nat.le_of_ble_eq_true rfl) [2, 0, 1, 3] [] rfl trivial (Φr := [ia v 0 (lb cs), oa w 0 (((lb cs).drop x).take ((x + n) - x)), ia v 0 (lb cs)]) rfl (by first | omega | exact Nat.zero_le _) dJ16_newString_20 (fun v9 Ψ hq => ?_) (fun _ _ hq => hq.elim)
    obtain ⟨rfl, rfl⟩ := hq
    show jT mJ16_newString l G _ _ _ X [ow r 2 [.ref w, .int (iI 0), .int (iI 0), .int (iI 0)], ia v 0 (lb cs), oa w 0 (((lb cs).drop x).take ((x + n) - x)), ia v 0 (lb cs)] 23 [(0, .ref v), (1, .int (iI (x : Int))), (2, .int (iI (n : Int)))] [.ref r] _
    refine jt_freeze 0 rfl (Φ' := [im r 2 [.ref w, .int (iI 0), .int (iI 0), .int (iI 0)], ia v 0 (lb cs), oa w 0 (((lb cs).drop x).take ((x + n) - x)), ia v 0 (lb cs)]) rfl ?_
    refine jt_take 0 2 rfl (Φ' := [im r 2 [.ref w, .int (iI 0)], ia v 0 (lb cs), oa w 0 (((lb cs).drop x).take ((x + n) - x)), ia v 0 (lb cs)]) rfl ?_
    refine jt_freeze 2 rfl (Φ' := [im r 2 [.ref w, .int (iI 0)], ia v 0 (lb cs), ia w 0 (((lb cs).drop x).take (x + n - x)), ia v 0 (lb cs)]) rfl ?_
    refine jt_pickP [0, 2, 1, 3] [] rfl trivial (Φ' := [im r 2 [.ref w, .int (iI 0)], ia w 0 (((lb cs).drop x).take (x + n - x)), ia v 0 (lb cs), ia v 0 (lb cs)]) rfl ?_
    refine jt_fold (A := [im r 2 [.ref w, .int (iI 0)], ia w 0 (((lb cs).drop x).take (x + n - x))]) (P := jLs r ((cs.drop x).take n)) (jLs_fold (fun c hc => hb c (List.mem_of_mem_drop (List.mem_of_mem_take hc))) (by rw [List.length_take, List.length_drop]; omega) rfl (by rw [show x + n - x = n by omega]; exact lb_sub)) ?_
    show jT mJ16_newString l G _ _ _ X [jLs r ((cs.drop x).take n), ia v 0 (lb cs), ia v 0 (lb cs)] 23 [(0, .ref v), (1, .int (iI (x : Int))), (2, .int (iI (n : Int)))] [.ref r] _
    exact jr_aret dJ16_newString_23 rfl (Or.inl ⟨_, rfl⟩) (Or.inr ⟨_, rfl⟩) (Ψ := [jLs r ((cs.drop x).take n)]) ⟨r, rfl, rfl⟩ (js_pickP [0] [] rfl trivial rfl)
  · skip
    refine jr_ldcS 30 rfl rfl dJ16_newString_4 ?_
    refine jt_ldcLs 30 [] rfl (by intro x hx; cases hx) (by decide) ?_
    have hn0 : n = 0 := by omega
    refine jt_same 0 (P := jLs (jKA G 30) []) (P' := jLs (jKA G 30) ((cs.drop x).take n)) rfl (by rw [hn0, List.take_zero]) (Φ' := [jLs (jKA G 30) ((cs.drop x).take n), ia v 0 (lb cs)]) rfl ?_
    exact jr_aret dJ16_newString_6 rfl (Or.inl ⟨_, rfl⟩) (Or.inr ⟨_, rfl⟩) (Ψ := [jLs (jKA G 30) ((cs.drop x).take n)]) ⟨(jKA G 30), rfl, rfl⟩ (js_pickP [0] [] rfl trivial rfl)

abbrev mJ15_checkFromToIndex : jM := (cJ15_checkFromToIndex, RJ15, 4, (Option.some FieldType.int), "checkFromToIndex", none)
theorem oJ15_checkFromToIndex : jcode yJ15_checkFromToIndex mJ15_checkFromToIndex := q507
theorem pJ15_checkFromToIndex : jpar yJ15_checkFromToIndex 4 := ⟨by decide +kernel, by decide +kernel, by decide +kernel⟩
theorem sp_checkFromTo (l : Launch) (G : jG) (x : Nat) (y : Nat) (n : Nat) (z : Value) (h1 : x ≤ y) (h2 : y ≤ n) (h3 : n ≤ 2147483647) (hz : z = .null ∨ ∃ a, z = .ref a) : jS l G yJ15_checkFromToIndex mJ15_checkFromToIndex 1 [.int (iI (x : Int)), .int (iI (y : Int)), .int (iI (n : Int)), z] [] (0) (jret (fun v9 Ψ => v9 = some (.int (iI (x : Int))) ∧ Ψ = [])) := by
  refine jS_of (plainFor_of_name (by decide)) rfl rfl rfl (by rcases hz with rfl | ⟨_, rfl⟩ <;> exact Nat.le_of_ble_eq_true rfl) (fun X => ?_)
  show jT mJ15_checkFromToIndex l G _ _ _ X [] 0 [(0, .int (iI (x : Int))), (1, .int (iI (y : Int))), (2, .int (iI (n : Int))), (3, z)] [] _
  refine jlv_iload_n dJ15_checkFromToIndex_0 rfl 0 rfl ?_
  refine ji_if_lt 14 (by omega) dJ15_checkFromToIndex_1 (by decide) (fun h_51 => absurd h_51 (by omega)) (fun h_51 => ?_)
  refine jlv_iload_n dJ15_checkFromToIndex_4 rfl 0 rfl ?_
  refine jlv_iload_n dJ15_checkFromToIndex_5 rfl 1 rfl ?_
  refine ji_icmp_gt 14 (by omega) (by omega) dJ15_checkFromToIndex_6 (by decide) (fun h_52 => absurd h_52 (by omega)) (fun h_52 => ?_)
  refine jlv_iload_n dJ15_checkFromToIndex_9 rfl 1 rfl ?_
  refine jlv_iload_n dJ15_checkFromToIndex_10 rfl 2 rfl ?_
  refine ji_icmp_le 22 (by omega) (by omega) dJ15_checkFromToIndex_11 (by decide) (fun h_53 => ?_) (fun h_53 => absurd h_53 (by omega))
  refine jlv_iload_n dJ15_checkFromToIndex_22 rfl 0 rfl ?_
  exact jr_zret dJ15_checkFromToIndex_23 rfl rfl (Ψ := []) ⟨rfl, rfl⟩ (js_pickP [] [] rfl trivial rfl)

abbrev mJ5_checkBoundsBeginEnd : jM := (cJ5_checkBoundsBeginEnd, RJ5, 3, (Option.none : Option FieldType), "checkBoundsBeginEnd", none)
theorem oJ5_checkBoundsBeginEnd : jcode yJ5_checkBoundsBeginEnd mJ5_checkBoundsBeginEnd := q502
theorem pJ5_checkBoundsBeginEnd : jpar yJ5_checkBoundsBeginEnd 3 := ⟨by decide +kernel, by decide +kernel, by decide +kernel⟩
theorem sp_S_checkBE (l : Launch) (G : jG) (x : Nat) (y : Nat) (n : Nat) (h1 : x ≤ y) (h2 : y ≤ n) (h3 : n ≤ 2147483647) : jS l G yJ5_checkBoundsBeginEnd mJ5_checkBoundsBeginEnd 2 [.int (iI (x : Int)), .int (iI (y : Int)), .int (iI (n : Int))] [] (0) (jret (fun v9 Ψ => v9 = none ∧ Ψ = [])) := by
  refine jS_of (plainFor_of_name (by decide)) rfl rfl rfl (Nat.le_of_ble_eq_true rfl) (fun X => ?_)
  show jT mJ5_checkBoundsBeginEnd l G _ _ _ X [] 0 [(0, .int (iI (x : Int))), (1, .int (iI (y : Int))), (2, .int (iI (n : Int)))] [] _
  refine jr_g0 (fun hg0 => ?_)
  obtain ⟨gi, ⟨gea, hgea, hgea2⟩, ⟨gem, hgem, hgem2⟩, ⟨gpr, hgpr, hgpr2⟩, ⟨gic, gicad, hgic, hgic2, hgic3⟩, ⟨gcc, gccad, hgcc, hgcc2, hgcc3⟩, grf, gks⟩ := hg0
  have hz := grf 21 (by decide)
  refine jlv_iload_n dJ5_checkBoundsBeginEnd_0 rfl 0 rfl ?_
  refine jlv_iload_n dJ5_checkBoundsBeginEnd_1 rfl 1 rfl ?_
  refine jlv_iload_n dJ5_checkBoundsBeginEnd_2 rfl 2 rfl ?_
  refine jr_gets 21 rfl q503 dJ5_checkBoundsBeginEnd_3 ?_
  refine jr_callS [.int (iI (x : Int)), .int (iI (y : Int)), .int (iI (n : Int)), (jSV G 21)] (sp_checkFromTo l G x y n (jSV G 21) (h1) (h2) (h3) (hz)) (rest := []) q505 q506 q94 oJ15_checkFromToIndex pJ15_checkFromToIndex (by decide) (by decide) (Nat.le_of_ble_eq_true rfl) [] [] rfl trivial (Φr := []) rfl (by first | omega | exact Nat.zero_le _) dJ5_checkBoundsBeginEnd_6 (fun v9 Ψ hq => ?_) (fun _ _ hq => hq.elim)
  obtain ⟨rfl, rfl⟩ := hq
  show jT mJ5_checkBoundsBeginEnd l G _ _ _ X [] 9 [(0, .int (iI (x : Int))), (1, .int (iI (y : Int))), (2, .int (iI (n : Int)))] [.int (iI (x : Int))] _
  refine jlv_pop dJ5_checkBoundsBeginEnd_9 rfl ?_
  exact jr_vret dJ5_checkBoundsBeginEnd_10 rfl (Ψ := []) ⟨rfl, rfl⟩ (js_pickP [] [] rfl trivial rfl)

abbrev mJ5_substring : jM := (cJ5_substring, RJ5, 5, (Option.some (FieldType.object "java/lang/String")), "substring", none)
theorem oJ5_substring : jcode yJ5_substring mJ5_substring := q2302
theorem pJ5_substring : jpar yJ5_substring 2 := ⟨by decide +kernel, by decide +kernel, by decide +kernel⟩
theorem sp_S_substring (l : Launch) (G : jG) (a : Nat) (cs : List Nat) (x : Nat) (y : Nat) (hx : x ≤ y) (hy : y ≤ cs.length) : jS l G yJ5_substring mJ5_substring 5 [.ref a, .int (iI (x : Int)), .int (iI (y : Int))] [jLs a cs] ((y - x + 7) / 4 + 1) (jret (fun v9 Ψ => ∃ r : Nat, v9 = some (.ref r) ∧ Ψ = [jLs r ((cs.drop x).take (y - x))])) := by
  refine jS_of (plainFor_of_name (by decide)) rfl rfl rfl (Nat.le_of_ble_eq_true rfl) (fun X => ?_)
  show jT mJ5_substring l G _ _ _ X [jLs a cs] 0 [(0, .ref a), (1, .int (iI (x : Int))), (2, .int (iI (y : Int)))] [] _
  refine jt_dup 0 rfl jpers_jLs ?_
  refine jt_open ?_
  rintro v ⟨hb, hl⟩
  try dsimp only at hb hl
  show jT mJ5_substring l G _ _ _ X [im a 2 [.ref v, .int (iI 0)], ia v 0 (lb cs), jLs a cs] 0 [(0, .ref a), (1, .int (iI (x : Int))), (2, .int (iI (y : Int)))] [] _
  refine jlv_aload_n dJ5_substring_0 rfl 0 rfl ?_
  refine jr_callV [] (sp_S_length l G a cs) (rest := []) 0 rfl rfl rfl q2135 q518 q519 q81 oJ5_length pJ5_length (by decide) (by decide) (Nat.le_of_ble_eq_true rfl) [2, 0, 1, 2] [2] rfl ⟨⟨_, rfl, jpers_jLs⟩, trivial⟩ (Φr := [im a 2 [.ref v, .int (iI 0)], ia v 0 (lb cs), jLs a cs]) rfl (by first | omega | exact Nat.zero_le _) dJ5_substring_1 (fun v9 Ψ hq => ?_) (fun _ _ hq => hq.elim)
  obtain ⟨rfl, rfl⟩ := hq
  show jT mJ5_substring l G _ _ _ X [im a 2 [.ref v, .int (iI 0)], ia v 0 (lb cs), jLs a cs] 4 [(0, .ref a), (1, .int (iI (x : Int))), (2, .int (iI (y : Int)))] [.int (iI (cs.length : Int))] _
  refine jlv_istore_n (lv' := [(3, .int (iI (cs.length : Int))), (0, .ref a), (1, .int (iI (x : Int))), (2, .int (iI (y : Int)))]) dJ5_substring_4 rfl (by decide) rfl ?_
  refine jlv_iload_n dJ5_substring_5 rfl 2 rfl ?_
  refine jlv_iload_n dJ5_substring_6 rfl 3 rfl ?_
  refine jlv_iload_n dJ5_substring_7 rfl 0 rfl ?_
  refine jr_callS [.int (iI (x : Int)), .int (iI (y : Int)), .int (iI (cs.length : Int))] (sp_S_checkBE l G x y cs.length (hx) (hy) (by omega)) (rest := []) q2303 q501 q81 oJ5_checkBoundsBeginEnd pJ5_checkBoundsBeginEnd (by decide) (by decide) (Nat.le_of_ble_eq_true rfl) [0, 1, 2] [] rfl trivial (Φr := [im a 2 [.ref v, .int (iI 0)], ia v 0 (lb cs), jLs a cs]) rfl (by first | omega | exact Nat.zero_le _) dJ5_substring_8 (fun v9 Ψ hq => ?_) (fun _ _ hq => hq.elim)
  obtain ⟨rfl, rfl⟩ := hq
  show jT mJ5_substring l G _ _ _ X [im a 2 [.ref v, .int (iI 0)], ia v 0 (lb cs), jLs a cs] 11 [(3, .int (iI (cs.length : Int))), (0, .ref a), (1, .int (iI (x : Int))), (2, .int (iI (y : Int)))] [] _
  refine jlv_iload_n dJ5_substring_11 rfl 2 rfl ?_
  refine ji_if_ne 22 (by omega) dJ5_substring_12 (by decide) (fun h_54 => ?_) (fun h_54 => ?_)
  · skip
    refine jlv_iload_n dJ5_substring_22 rfl 3 rfl ?_
    refine jlv_iload_n dJ5_substring_23 rfl 2 rfl ?_
    refine ji_isub ((y : Int) - (x : Int)) (by omega) dJ5_substring_24 ?_
    refine jlv_istore (lv' := [(4, .int (iI ((y : Int) - (x : Int)))), (3, .int (iI (cs.length : Int))), (0, .ref a), (1, .int (iI (x : Int))), (2, .int (iI (y : Int)))]) dJ5_substring_25 (by decide) rfl ?_
    refine jlv_aload_n dJ5_substring_27 rfl 2 rfl ?_
    refine jr_callV [] (sp_S_isLatin1 l G a cs) (rest := []) 0 rfl rfl rfl q1542 q1543 q1544 q81 oJ5_isLatin1 pJ5_isLatin1 (by decide) (by decide) (Nat.le_of_ble_eq_true rfl) [2, 0, 1, 2] [2] rfl ⟨⟨_, rfl, jpers_jLs⟩, trivial⟩ (Φr := [im a 2 [.ref v, .int (iI 0)], ia v 0 (lb cs), jLs a cs]) rfl (by first | omega | exact Nat.zero_le _) dJ5_substring_28 (fun v9 Ψ hq => ?_) (fun _ _ hq => hq.elim)
    obtain ⟨rfl, rfl⟩ := hq
    show jT mJ5_substring l G _ _ _ X [im a 2 [.ref v, .int (iI 0)], ia v 0 (lb cs), jLs a cs] 31 [(4, .int (iI ((y : Int) - (x : Int)))), (3, .int (iI (cs.length : Int))), (0, .ref a), (1, .int (iI (x : Int))), (2, .int (iI (y : Int)))] [.int (iI 1)] _
    refine ji_if_eq 47 (by decide) dJ5_substring_31 (by decide) (fun h_55 => absurd h_55 (by decide)) (fun h_55 => ?_)
    refine jlv_aload_n dJ5_substring_34 rfl 2 rfl ?_
    refine jr_get 0 rfl rfl 0 q675 (Or.inl rfl) rfl dJ5_substring_35 ?_
    refine jlv_iload_n dJ5_substring_38 rfl 3 rfl ?_
    refine jlv_iload dJ5_substring_39 0 rfl ?_
    refine jt_eq (st' := [.int (iI ((y - x : Nat) : Int)), .int (iI (x : Int)), .ref v]) (lv' := [(4, .int (iI ((y : Int) - (x : Int)))), (3, .int (iI (cs.length : Int))), (0, .ref a), (1, .int (iI (x : Int))), (2, .int (iI (y : Int)))]) (by first | rfl | rw [show (y : Int) - (x : Int) = ((y - x : Nat) : Int) by omega]) rfl ?_
    refine jr_callS [.ref v, .int (iI (x : Int)), .int (iI ((y - x : Nat) : Int))] (sp_L1_newString l G v cs x (y - x) (hb) (hl) (by omega)) (rest := []) q2304 q2305 q95 oJ16_newString pJ16_newString (by decide) (by decide) (Nat.le_of_ble_eq_true rfl) [1, 0, 1, 2] [1] rfl ⟨⟨_, rfl, jpers_A⟩, trivial⟩ (Φr := [im a 2 [.ref v, .int (iI 0)], ia v 0 (lb cs), jLs a cs]) rfl (by first | omega | exact Nat.zero_le _) dJ5_substring_41 (fun v9 Ψ hq => ?_) (fun _ _ hq => hq.elim)
    obtain ⟨r, rfl, rfl⟩ := hq
    show jT mJ5_substring l G _ _ _ X [jLs r ((cs.drop x).take (y - x)), im a 2 [.ref v, .int (iI 0)], ia v 0 (lb cs), jLs a cs] 44 [(4, .int (iI ((y : Int) - (x : Int)))), (3, .int (iI (cs.length : Int))), (0, .ref a), (1, .int (iI (x : Int))), (2, .int (iI (y : Int)))] [.ref r] _
    refine jlv_goto (tgt := 57) dJ5_substring_44 (by decide) ?_
    exact jr_aret dJ5_substring_57 rfl (Or.inl ⟨_, rfl⟩) (Or.inr ⟨_, rfl⟩) (Ψ := [jLs r ((cs.drop x).take (y - x))]) ⟨r, rfl, rfl⟩ (js_pickP [0] [] rfl trivial rfl)
  · skip
    refine jlv_iload_n dJ5_substring_15 rfl 3 rfl ?_
    refine jlv_iload_n dJ5_substring_16 rfl 0 rfl ?_
    refine ji_icmp_ne 22 (by omega) (by omega) dJ5_substring_17 (by decide) (fun h_56 => ?_) (fun h_56 => ?_)
    · skip
      refine jlv_iload_n dJ5_substring_22 rfl 3 rfl ?_
      refine jlv_iload_n dJ5_substring_23 rfl 2 rfl ?_
      refine ji_isub ((y : Int) - (x : Int)) (by omega) dJ5_substring_24 ?_
      refine jlv_istore (lv' := [(4, .int (iI ((y : Int) - (x : Int)))), (3, .int (iI (cs.length : Int))), (0, .ref a), (1, .int (iI (x : Int))), (2, .int (iI (y : Int)))]) dJ5_substring_25 (by decide) rfl ?_
      refine jlv_aload_n dJ5_substring_27 rfl 2 rfl ?_
      refine jr_callV [] (sp_S_isLatin1 l G a cs) (rest := []) 0 rfl rfl rfl q1542 q1543 q1544 q81 oJ5_isLatin1 pJ5_isLatin1 (by decide) (by decide) (Nat.le_of_ble_eq_true rfl) [2, 0, 1, 2] [2] rfl ⟨⟨_, rfl, jpers_jLs⟩, trivial⟩ (Φr := [im a 2 [.ref v, .int (iI 0)], ia v 0 (lb cs), jLs a cs]) rfl (by first | omega | exact Nat.zero_le _) dJ5_substring_28 (fun v9 Ψ hq => ?_) (fun _ _ hq => hq.elim)
      obtain ⟨rfl, rfl⟩ := hq
      show jT mJ5_substring l G _ _ _ X [im a 2 [.ref v, .int (iI 0)], ia v 0 (lb cs), jLs a cs] 31 [(4, .int (iI ((y : Int) - (x : Int)))), (3, .int (iI (cs.length : Int))), (0, .ref a), (1, .int (iI (x : Int))), (2, .int (iI (y : Int)))] [.int (iI 1)] _
      refine ji_if_eq 47 (by decide) dJ5_substring_31 (by decide) (fun h_57 => absurd h_57 (by decide)) (fun h_57 => ?_)
      refine jlv_aload_n dJ5_substring_34 rfl 2 rfl ?_
      refine jr_get 0 rfl rfl 0 q675 (Or.inl rfl) rfl dJ5_substring_35 ?_
      refine jlv_iload_n dJ5_substring_38 rfl 3 rfl ?_
      refine jlv_iload dJ5_substring_39 0 rfl ?_
      refine jt_eq (st' := [.int (iI ((y - x : Nat) : Int)), .int (iI (x : Int)), .ref v]) (lv' := [(4, .int (iI ((y : Int) - (x : Int)))), (3, .int (iI (cs.length : Int))), (0, .ref a), (1, .int (iI (x : Int))), (2, .int (iI (y : Int)))]) (by first | rfl | rw [show (y : Int) - (x : Int) = ((y - x : Nat) : Int) by omega]) rfl ?_
      refine jr_callS [.ref v, .int (iI (x : Int)), .int (iI ((y - x : Nat) : Int))] (sp_L1_newString l G v cs x (y - x) (hb) (hl) (by omega)) (rest := []) q2304 q2305 q95 oJ16_newString pJ16_newString (by decide) (by decide) (Nat.le_of_ble_eq_true rfl) [1, 0, 1, 2] [1] rfl ⟨⟨_, rfl, jpers_A⟩, trivial⟩ (Φr := [im a 2 [.ref v, .int (iI 0)], ia v 0 (lb cs), jLs a cs]) rfl (by first | omega | exact Nat.zero_le _) dJ5_substring_41 (fun v9 Ψ hq => ?_) (fun _ _ hq => hq.elim)
      obtain ⟨r, rfl, rfl⟩ := hq
      show jT mJ5_substring l G _ _ _ X [jLs r ((cs.drop x).take (y - x)), im a 2 [.ref v, .int (iI 0)], ia v 0 (lb cs), jLs a cs] 44 [(4, .int (iI ((y : Int) - (x : Int)))), (3, .int (iI (cs.length : Int))), (0, .ref a), (1, .int (iI (x : Int))), (2, .int (iI (y : Int)))] [.ref r] _
      refine jlv_goto (tgt := 57) dJ5_substring_44 (by decide) ?_
      exact jr_aret dJ5_substring_57 rfl (Or.inl ⟨_, rfl⟩) (Or.inr ⟨_, rfl⟩) (Ψ := [jLs r ((cs.drop x).take (y - x))]) ⟨r, rfl, rfl⟩ (js_pickP [0] [] rfl trivial rfl)
    · skip
      refine jlv_aload_n dJ5_substring_20 rfl 1 rfl ?_
      refine jt_dup 2 rfl jpers_jLs ?_
      refine jt_same 0 (P := jLs a cs) (P' := jLs a ((cs.drop x).take (y - x))) rfl (by rw [show x = 0 by omega, show y = cs.length by omega, List.drop_zero, Nat.sub_zero, List.take_length]) (Φ' := [jLs a ((cs.drop x).take (y - x)), im a 2 [.ref v, .int (iI 0)], ia v 0 (lb cs), jLs a cs]) rfl ?_
      exact jr_aret dJ5_substring_21 rfl (Or.inl ⟨_, rfl⟩) (Or.inr ⟨_, rfl⟩) (Ψ := [jLs a ((cs.drop x).take (y - x))]) ⟨a, rfl, rfl⟩ (js_pickP [0] [] rfl trivial rfl)

abbrev mJ5_substring_2 : jM := (cJ5_substring_2, RJ5, 2, (Option.some (FieldType.object "java/lang/String")), "substring", none)
theorem oJ5_substring_2 : jcode yJ5_substring_2 mJ5_substring_2 := q2643
theorem pJ5_substring_2 : jpar yJ5_substring_2 1 := ⟨by decide +kernel, by decide +kernel, by decide +kernel⟩
theorem sp_S_substring1 (l : Launch) (G : jG) (a : Nat) (cs : List Nat) (x : Nat) (hx : x ≤ cs.length) : jS l G yJ5_substring_2 mJ5_substring_2 6 [.ref a, .int (iI (x : Int))] [jLs a cs] ((cs.length + 7) / 4 + 1) (jret (fun v9 Ψ => ∃ r : Nat, v9 = some (.ref r) ∧ Ψ = [jLs r (cs.drop x)])) := by
  refine jS_of (plainFor_of_name (by decide)) rfl rfl rfl (Nat.le_of_ble_eq_true rfl) (fun X => ?_)
  show jT mJ5_substring_2 l G _ _ _ X [jLs a cs] 0 [(0, .ref a), (1, .int (iI (x : Int)))] [] _
  refine jlv_aload_n dJ5_substring_2_0 rfl 0 rfl ?_
  refine jlv_iload_n dJ5_substring_2_1 rfl 1 rfl ?_
  refine jlv_aload_n dJ5_substring_2_2 rfl 0 rfl ?_
  refine jt_cls 0 rfl jLs_has ?_
  refine jr_callV [] (sp_S_length l G a cs) (rest := [.int (iI (x : Int)), .ref a]) 0 rfl rfl rfl q2135 q518 q519 q81 oJ5_length pJ5_length (by decide) (by decide) (Nat.le_of_ble_eq_true rfl) [1, 0, 1] [1] rfl ⟨⟨_, rfl, jpers_jLs⟩, trivial⟩ (Φr := [im a 2 [], jLs a cs]) rfl (by first | omega | exact Nat.zero_le _) dJ5_substring_2_3 (fun v9 Ψ hq => ?_) (fun _ _ hq => hq.elim)
  obtain ⟨rfl, rfl⟩ := hq
  show jT mJ5_substring_2 l G _ _ _ X [im a 2 [], jLs a cs] 6 [(0, .ref a), (1, .int (iI (x : Int)))] [.int (iI (cs.length : Int)), .int (iI (x : Int)), .ref a] _
  refine jr_callV [.int (iI (x : Int)), .int (iI (cs.length : Int))] (sp_S_substring l G a cs x cs.length (hx) (Nat.le_refl _)) (rest := []) 0 rfl rfl rfl q2644 q2300 q2301 q81 oJ5_substring pJ5_substring (by decide) (by decide) (Nat.le_of_ble_eq_true rfl) [1, 0, 1] [1] rfl ⟨⟨_, rfl, jpers_jLs⟩, trivial⟩ (Φr := [im a 2 [], jLs a cs]) rfl (by first | omega | exact Nat.zero_le _) dJ5_substring_2_6 (fun v9 Ψ hq => ?_) (fun _ _ hq => hq.elim)
  obtain ⟨r, rfl, rfl⟩ := hq
  show jT mJ5_substring_2 l G _ _ _ X [jLs r ((cs.drop x).take (cs.length - x)), im a 2 [], jLs a cs] 9 [(0, .ref a), (1, .int (iI (x : Int)))] [.ref r] _
  refine jt_same 0 (P := jLs r ((cs.drop x).take (cs.length - x))) (P' := jLs r (cs.drop x)) rfl (by rw [List.take_of_length_le (by rw [List.length_drop]; exact Nat.le_refl _)]) (Φ' := [jLs r (cs.drop x), im a 2 [], jLs a cs]) rfl ?_
  exact jr_aret dJ5_substring_2_9 rfl (Or.inl ⟨_, rfl⟩) (Or.inr ⟨_, rfl⟩) (Ψ := [jLs r (cs.drop x)]) ⟨r, rfl, rfl⟩ (js_pickP [0] [] rfl trivial rfl)

abbrev mJ16_toBytes : jM := (cJ16_toBytes, RJ16, 1, (Option.some (FieldType.array FieldType.byte)), "toBytes", none)
theorem oJ16_toBytes : jcode yJ16_toBytes mJ16_toBytes := q2630
theorem pJ16_toBytes : jpar yJ16_toBytes 1 := ⟨by decide +kernel, by decide +kernel, by decide +kernel⟩
theorem sp_L1_toBytes (l : Launch) (G : jG) (c : Nat) (hc : c < 256) : jS l G yJ16_toBytes mJ16_toBytes 1 [.int (iI (c : Int))] [] (1) (jret (fun v9 Ψ => ∃ r : Nat, v9 = some (.ref r) ∧ Ψ = [oa r 0 (lb [c])])) := by
  refine jS_of (plainFor_of_name (by decide)) rfl rfl rfl (Nat.le_of_ble_eq_true rfl) (fun X => ?_)
  show jT mJ16_toBytes l G _ _ _ X [] 0 [(0, .int (iI (c : Int)))] [] _
  refine jlv_iconst (v := iI 1) dJ16_toBytes_0 rfl ?_
  refine jr_newa (atype := .byte) (ty := .byte) q233 0 rfl rfl (fun c => (by intro z; cases z)) (N := 1) (by decide) (by show _ * 1 ≤ _; omega) (u := 1) (by omega) (by omega) (by omega) dJ16_toBytes_1 (fun r => ?_)
  refine jlv_dup dJ16_toBytes_3 rfl ?_
  refine jlv_iconst (v := iI 0) dJ16_toBytes_4 rfl ?_
  refine jlv_iload_n dJ16_toBytes_5 rfl 0 rfl ?_
  refine jlv_i2b (v := iI (sb c)) dJ16_toBytes_6 (sb_i2b c hc) ?_
  refine jr_bast 0 rfl (n := 0) (by decide) (by decide) (v := .int (iI (sb c))) (sb_nar c hc) dJ16_toBytes_7 (Φ' := [oa r 0 (lb [c])]) rfl ?_
  exact jr_aret dJ16_toBytes_8 rfl (Or.inr ⟨_, rfl⟩) (Or.inr ⟨_, rfl⟩) (Ψ := [oa r 0 (lb [c])]) ⟨r, rfl, rfl⟩ (js_pickP [0] [] rfl trivial rfl)

abbrev mJ5_valueOf : jM := (cJ5_valueOf, RJ5, 1, (Option.some (FieldType.object "java/lang/String")), "valueOf", none)
theorem oJ5_valueOf : jcode yJ5_valueOf mJ5_valueOf := q2626
theorem pJ5_valueOf : jpar yJ5_valueOf 1 := ⟨by decide +kernel, by decide +kernel, by decide +kernel⟩
theorem sp_S_valueOf (l : Launch) (G : jG) (c : Nat) (hc : c < 256) : jS l G yJ5_valueOf mJ5_valueOf 3 [.int (iI (c : Int))] [] (2) (jret (fun v9 Ψ => ∃ r : Nat, v9 = some (.ref r) ∧ Ψ = [jLs r [c]])) := by
  refine jS_of (plainFor_of_name (by decide)) rfl rfl rfl (Nat.le_of_ble_eq_true rfl) (fun X => ?_)
  show jT mJ5_valueOf l G _ _ _ X [] 0 [(0, .int (iI (c : Int)))] [] _
  refine jr_g0 (fun hg0 => ?_)
  obtain ⟨gi, ⟨gea, hgea, hgea2⟩, ⟨gem, hgem, hgem2⟩, ⟨gpr, hgpr, hgpr2⟩, ⟨gic, gicad, hgic, hgic2, hgic3⟩, ⟨gcc, gccad, hgcc, hgcc2, hgcc3⟩, grf, gks⟩ := hg0
  refine jr_getsV 3 rfl q525 (v := .int (iI 1)) (gi (3, 1) (List.mem_of_getElem? (i := 0) rfl)) dJ5_valueOf_0 ?_
  refine ji_if_eq 26 (by decide) dJ5_valueOf_3 (by decide) (fun h_58 => absurd h_58 (by decide)) (fun h_58 => ?_)
  refine jlv_iload_n dJ5_valueOf_6 rfl 0 rfl ?_
  refine jr_callS [.int (iI (c : Int))] (sp_canEncodeC l G c (by omega)) (rest := []) q2627 q2243 q95 oJ16_canEncode_2 pJ16_canEncode_2 (by decide) (by decide) (Nat.le_of_ble_eq_true rfl) [] [] rfl trivial (Φr := []) rfl (by first | omega | exact Nat.zero_le _) dJ5_valueOf_7 (fun v9 Ψ hq => ?_) (fun _ _ hq => hq.elim)
  obtain ⟨rfl, rfl⟩ := hq
  show jT mJ5_valueOf l G _ _ _ X [] 10 [(0, .int (iI (c : Int)))] [.int (jB (decide (c < 256)))] _
  refine ji_bz_eq 26 dJ5_valueOf_10 (by decide) (fun h_59 => absurd h_59 (by simpa using hc)) (fun h_59 => ?_)
  refine jr_new (k0 := 2) rfl q954 q591 q81 (fs := [.null, .int (iI 0), .int (iI 0), .int (iI 0)]) rfl (u := 1) (by decide) (by decide) (by omega) dJ5_valueOf_13 (fun r => ?_)
  refine jlv_dup dJ5_valueOf_16 rfl ?_
  refine jlv_iload_n dJ5_valueOf_17 rfl 0 rfl ?_
  refine jr_callS [.int (iI (c : Int))] (sp_L1_toBytes l G c (hc)) (rest := [.ref r, .ref r]) q2628 q2629 q95 oJ16_toBytes pJ16_toBytes (by decide) (by decide) (Nat.le_of_ble_eq_true rfl) [0] [] rfl trivial (Φr := [ow r 2 [.null, .int (iI 0), .int (iI 0), .int (iI 0)]]) rfl (by first | omega | exact Nat.zero_le _) dJ5_valueOf_18 (fun v9 Ψ hq => ?_) (fun _ _ hq => hq.elim)
  obtain ⟨w, rfl, rfl⟩ := hq
  show jT mJ5_valueOf l G _ _ _ X [oa w 0 (lb [c]), ow r 2 [.null, .int (iI 0), .int (iI 0), .int (iI 0)]] 21 [(0, .int (iI (c : Int)))] [.ref w, .ref r, .ref r] _
  refine jlv_iconst (v := iI 0) dJ5_valueOf_21 rfl ?_
  refine jr_callI [.ref w, .int (iI 0)] (sp_S_initB l G r w) (rest := [.ref r]) rfl rfl rfl q2631 q2311 q81 oJ5_init_3 pJ5_init_3 (by decide) (by decide) (Nat.le_of_ble_eq_true rfl) [1, 0] [] rfl trivial (Φr := [oa w 0 (lb [c])]) rfl (by first | omega | exact Nat.zero_le _) dJ5_valueOf_22 (fun v9 Ψ hq => ?_) (fun _ _ hq => hq.elim)
  obtain ⟨rfl, rfl⟩ := hq
  show jT mJ5_valueOf l G _ _ _ X [ow r 2 [.ref w, .int (iI 0), .int (iI 0), .int (iI 0)], oa w 0 (lb [c])] 25 [(0, .int (iI (c : Int)))] [.ref r] _
  refine jt_freeze 0 rfl (Φ' := [im r 2 [.ref w, .int (iI 0), .int (iI 0), .int (iI 0)], oa w 0 (lb [c])]) rfl ?_
  refine jt_take 0 2 rfl (Φ' := [im r 2 [.ref w, .int (iI 0)], oa w 0 (lb [c])]) rfl ?_
  refine jt_freeze 1 rfl (Φ' := [im r 2 [.ref w, .int (iI 0)], ia w 0 (lb [c])]) rfl ?_
  refine jt_pickP [0, 1] [] rfl trivial (Φ' := [im r 2 [.ref w, .int (iI 0)], ia w 0 (lb [c])]) rfl ?_
  refine jt_fold (A := [im r 2 [.ref w, .int (iI 0)], ia w 0 (lb [c])]) (P := jLs r [c]) (jLs_fold (fun x hx => by rw [List.mem_singleton.mp hx]; exact hc) (Nat.le_of_ble_eq_true rfl) rfl rfl) ?_
  show jT mJ5_valueOf l G _ _ _ X [jLs r [c]] 25 [(0, .int (iI (c : Int)))] [.ref r] _
  exact jr_aret dJ5_valueOf_25 rfl (Or.inl ⟨_, rfl⟩) (Or.inr ⟨_, rfl⟩) (Ψ := [jLs r [c]]) ⟨r, rfl, rfl⟩ (js_pickP [0] [] rfl trivial rfl)

