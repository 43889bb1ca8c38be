set_option maxRecDepth 100000
/-- small letters, capitals -/
def isSm (c : Nat) : Bool := decide (97 ≤ c ∧ c ≤ 122)
def isCp (c : Nat) : Bool := decide (65 ≤ c ∧ c ≤ 90)
def isLt (c : Nat) : Bool := isSm c || isCp c
def smC (c : Nat) : Nat := if isCp c then c + 32 else c
def cpC (c : Nat) : Nat := if isSm c then c - 32 else c
def isVo (c : Nat) : Bool := decide (c = 97 ∨ c = 101 ∨ c = 105 ∨ c = 111 ∨ c = 117)
theorem jix_rng : ∀ (cs : List Nat) (c : Nat), -1 ≤ jix cs c ∧ jix cs c < (cs.length : Int)
  | [], c => by simp [jix]
  | x :: xs, c => by
    have := jix_rng xs c
    unfold jix
    rw [List.length_cons]
    split
    · omega
    · split <;> omega
abbrev mX1_isBetween : jM := (cX1_isBetween, RX1, 6, (Option.some FieldType.boolean), "isBetween", none)
theorem oX1_isBetween : jcode yX1_isBetween mX1_isBetween := q2703
theorem pX1_isBetween : jpar yX1_isBetween 3 := ⟨by decide +kernel, by decide +kernel, by decide +kernel⟩
theorem sp_X_between (l : Launch) (G : jG) (x : Int) (lo : Int) (hi : Int) (hx : -2147483648 ≤ x ∧ x ≤ 2147483647) (hl : -2147483648 ≤ lo ∧ lo ≤ 2147483647) (hh : -2147483648 ≤ hi ∧ hi ≤ 2147483647) : jS l G yX1_isBetween mX1_isBetween 1 [.long (lI x), .long (lI lo), .long (lI hi)] [] (0) (jret (fun v9 Ψ => v9 = some (.int (jB (decide (lo ≤ x ∧ x ≤ hi)))) ∧ Ψ = [])) := by
  refine jS_of (plainFor_of_name (by decide)) rfl rfl rfl (Nat.le_of_ble_eq_true rfl) (fun X => ?_)
  show jT mX1_isBetween l G _ _ _ X [] 0 [(0, .long (lI x)), (2, .long (lI lo)), (4, .long (lI hi))] [] _
  refine jlv_lload_n dX1_isBetween_0 rfl 0 rfl ?_
  refine jlv_lload_n dX1_isBetween_1 rfl 1 rfl ?_
  refine ji_lcmp_lt 17 (by omega) (by omega) dX1_isBetween_2 dX1_isBetween_3 (by decide) (fun h_173 => ?_) (fun h_173 => ?_)
  · skip
    refine jlv_iconst (v := iI 0) dX1_isBetween_17 rfl ?_
    exact jr_zret dX1_isBetween_18 rfl rfl (Ψ := []) ⟨(by first | rfl | (congr 2; omega) | (congr 3; omega) | (congr 4; omega) | (congr 2; first | exact jB_t (decide_eq_true (by first | assumption | omega)) | exact jB_f (decide_eq_false (by first | assumption | omega))) | (congr 2; first | exact jB_t (by simp [*]; done) | exact jB_f (by simp [*]; done) | exact jB_t (by simp_all []; done) | exact jB_f (by simp_all []; done)) | (congr 2; simp_all []; done) | (congr 2; simp_all []; omega) | (congr 3; simp_all []; omega) | (simp_all []; done) | (simp_all []; omega)), rfl⟩ (js_pickP [] [] rfl trivial rfl)
  · skip
    refine jlv_lload_n dX1_isBetween_6 rfl 0 rfl ?_
    refine jlv_lload dX1_isBetween_7 2 rfl ?_
    refine ji_lcmp_gt 17 (by omega) (by omega) dX1_isBetween_9 dX1_isBetween_10 (by decide) (fun h_174 => ?_) (fun h_174 => ?_)
    · skip
      refine jlv_iconst (v := iI 0) dX1_isBetween_17 rfl ?_
      exact jr_zret dX1_isBetween_18 rfl rfl (Ψ := []) ⟨(by first | rfl | (congr 2; omega) | (congr 3; omega) | (congr 4; omega) | (congr 2; first | exact jB_t (decide_eq_true (by first | assumption | omega)) | exact jB_f (decide_eq_false (by first | assumption | omega))) | (congr 2; first | exact jB_t (by simp [*]; done) | exact jB_f (by simp [*]; done) | exact jB_t (by simp_all []; done) | exact jB_f (by simp_all []; done)) | (congr 2; simp_all []; done) | (congr 2; simp_all []; omega) | (congr 3; simp_all []; omega) | (simp_all []; done) | (simp_all []; omega)), rfl⟩ (js_pickP [] [] rfl trivial rfl)
    · skip
      refine jlv_iconst (v := iI 1) dX1_isBetween_13 rfl ?_
      refine jlv_goto (tgt := 18) dX1_isBetween_14 (by decide) ?_
      exact jr_zret dX1_isBetween_18 rfl rfl (Ψ := []) ⟨(by first | rfl | (congr 2; omega) | (congr 3; omega) | (congr 4; omega) | (congr 2; first | exact jB_t (decide_eq_true (by first | assumption | omega)) | exact jB_f (decide_eq_false (by first | assumption | omega))) | (congr 2; first | exact jB_t (by simp [*]; done) | exact jB_f (by simp [*]; done) | exact jB_t (by simp_all []; done) | exact jB_f (by simp_all []; done)) | (congr 2; simp_all []; done) | (congr 2; simp_all []; omega) | (congr 3; simp_all []; omega) | (simp_all []; done) | (simp_all []; omega)), rfl⟩ (js_pickP [] [] rfl trivial rfl)

abbrev mX1_require : jM := (cX1_require, RX1, 1, (Option.none : Option FieldType), "require", none)
theorem oX1_require : jcode yX1_require mX1_require := q2662
theorem pX1_require : jpar yX1_require 1 := ⟨by decide +kernel, by decide +kernel, by decide +kernel⟩
theorem sp_X1_require_ok (l : Launch) (G : jG) (b : Bool) (hb : b = true) : jS l G yX1_require mX1_require 6 [.int (jB b)] [] (0) (jret (fun v9 Ψ => v9 = none ∧ Ψ = [])) := by
  refine jS_of (plainFor_of_name (by decide)) rfl rfl rfl (Nat.le_of_ble_eq_true rfl) (fun X => ?_)
  show jT mX1_require l G _ _ _ X [] 0 [(0, .int (jB b))] [] _
  refine jlv_iload_n dX1_require_0 rfl 0 rfl ?_
  refine ji_bz_ne 12 dX1_require_1 (by decide) (fun h_175 => ?_) (fun h_175 => ?_)
  · skip
    exact jr_vret dX1_require_12 rfl (Ψ := []) ⟨rfl, rfl⟩ (js_pickP [] [] rfl trivial rfl)
  · skip
    exfalso; first | omega | simp_all | (simp_all; omega)

theorem sp_X1_require_no (l : Launch) (G : jG) (b : Bool) (hb : b = false) : jS l G yX1_require mX1_require 6 [.int (jB b)] [] (2) (jthr (fun q9 Ψ => ∃ q : Nat, q9 = q ∧ Ψ = [im q 7 []])) := by
  refine jS_of (plainFor_of_name (by decide)) rfl rfl rfl (Nat.le_of_ble_eq_true rfl) (fun X => ?_)
  show jT mX1_require l G _ _ _ X [] 0 [(0, .int (jB b))] [] _
  refine jlv_iload_n dX1_require_0 rfl 0 rfl ?_
  refine ji_bz_ne 12 dX1_require_1 (by decide) (fun h_176 => ?_) (fun h_176 => ?_)
  · skip
    exfalso; first | omega | simp_all | (simp_all; omega)
  · skip
    refine jr_throw0 7 rfl ["java/lang/RuntimeException", "java/lang/Exception"] (by decide +kernel) (by decide +kernel) q2663 q98 (jm_c q89 (jm_c q421 (jm_c q430 (jm_c q442 (jm_c q445 (jm_c q447 (jm_c q422 (jm_c q423 (jm_c q161 (jm_c q162 (jm_c q424 (jm_c q429 (jm_c q443 (jm_c q651 (jm_c q411 (jm_c q652 (jm_c q413 (jm_c q653 (jm_c q415 (jm_c q425 (jm_c q427 (jm_c q417 (jm_c q2665 (jm_c q2666 (jm_c q2667 (jm_c q741 (jm_c q741 (jm_c q742 (jm_c q743 (jm_c q744 (jm_c q744 (jm_c q745 (jm_c q746 (jm_c q422 (jm_c q2664 (jm_c q623 (jm_c q625 (jm_c q436 (jm_c q626 (jm_c q627 (jm_c q628 (jm_c q629 (jm_c q420 (jm_c q419 (jm_c q630 (jm_n)))))))))))))))))))))))))))))))))))))))))))))) (by decide +kernel) (jm_d (List.mem_of_getElem? (i := 12) rfl) (jm_d (List.mem_of_getElem? (i := 10) rfl) (jm_d (List.mem_of_getElem? (i := 8) rfl) (jm_k (List.mem_of_getElem? (i := 41) rfl) (jm_o))))) (by decide +kernel) (by decide +kernel) dX1_require_4 dX1_require_7 dX1_require_8 dX1_require_11 rfl (by decide) (by decide) (by omega) (Ψ := fun q => [im q 7 []]) (fun q => ⟨q, rfl, rfl⟩) (fun q => js_pickP [0] [] rfl trivial rfl)

abbrev mX1_requireIndex : jM := (cX1_requireIndex, RX1, 1, (Option.none : Option FieldType), "requireIndex", none)
theorem oX1_requireIndex : jcode yX1_requireIndex mX1_requireIndex := q2706
theorem pX1_requireIndex : jpar yX1_requireIndex 1 := ⟨by decide +kernel, by decide +kernel, by decide +kernel⟩
theorem sp_X1_requireIndex_ok (l : Launch) (G : jG) (b : Bool) (hb : b = true) : jS l G yX1_requireIndex mX1_requireIndex 6 [.int (jB b)] [] (0) (jret (fun v9 Ψ => v9 = none ∧ Ψ = [])) := by
  refine jS_of (plainFor_of_name (by decide)) rfl rfl rfl (Nat.le_of_ble_eq_true rfl) (fun X => ?_)
  show jT mX1_requireIndex l G _ _ _ X [] 0 [(0, .int (jB b))] [] _
  refine jlv_iload_n dX1_requireIndex_0 rfl 0 rfl ?_
  refine ji_bz_ne 12 dX1_requireIndex_1 (by decide) (fun h_177 => ?_) (fun h_177 => ?_)
  · skip
    exact jr_vret dX1_requireIndex_12 rfl (Ψ := []) ⟨rfl, rfl⟩ (js_pickP [] [] rfl trivial rfl)
  · skip
    exfalso; first | omega | simp_all | (simp_all; omega)

theorem sp_X1_requireIndex_no (l : Launch) (G : jG) (b : Bool) (hb : b = false) : jS l G yX1_requireIndex mX1_requireIndex 6 [.int (jB b)] [] (2) (jthr (fun q9 Ψ => ∃ q : Nat, q9 = q ∧ Ψ = [im q 5 []])) := by
  refine jS_of (plainFor_of_name (by decide)) rfl rfl rfl (Nat.le_of_ble_eq_true rfl) (fun X => ?_)
  show jT mX1_requireIndex l G _ _ _ X [] 0 [(0, .int (jB b))] [] _
  refine jlv_iload_n dX1_requireIndex_0 rfl 0 rfl ?_
  refine ji_bz_ne 12 dX1_requireIndex_1 (by decide) (fun h_178 => ?_) (fun h_178 => ?_)
  · skip
    exfalso; first | omega | simp_all | (simp_all; omega)
  · skip
    refine jr_throw0 5 rfl ["java/lang/RuntimeException", "java/lang/Exception"] (by decide +kernel) (by decide +kernel) q2707 q93 (jm_c q89 (jm_c q421 (jm_c q430 (jm_c q442 (jm_c q445 (jm_c q447 (jm_c q422 (jm_c q423 (jm_c q161 (jm_c q162 (jm_c q424 (jm_c q429 (jm_c q443 (jm_c q651 (jm_c q411 (jm_c q652 (jm_c q413 (jm_c q653 (jm_c q415 (jm_c q425 (jm_c q427 (jm_c q417 (jm_c q2709 (jm_c q2710 (jm_c q2711 (jm_c q741 (jm_c q741 (jm_c q742 (jm_c q743 (jm_c q744 (jm_c q744 (jm_c q745 (jm_c q746 (jm_c q422 (jm_c q2708 (jm_c q400 (jm_c q408 (jm_c q409 (jm_c q410 (jm_c q412 (jm_c q414 (jm_c q416 (jm_c q420 (jm_c q419 (jm_c q418 (jm_n)))))))))))))))))))))))))))))))))))))))))))))) (by decide +kernel) (jm_d (List.mem_of_getElem? (i := 12) rfl) (jm_d (List.mem_of_getElem? (i := 10) rfl) (jm_d (List.mem_of_getElem? (i := 8) rfl) (jm_k (List.mem_of_getElem? (i := 45) rfl) (jm_o))))) (by decide +kernel) (by decide +kernel) dX1_requireIndex_4 dX1_requireIndex_7 dX1_requireIndex_8 dX1_requireIndex_11 rfl (by decide) (by decide) (by omega) (Ψ := fun q => [im q 5 []]) (fun q => ⟨q, rfl, rfl⟩) (fun q => js_pickP [0] [] rfl trivial rfl)

abbrev mX1_requireState : jM := (cX1_requireState, RX1, 1, (Option.none : Option FieldType), "requireState", none)
theorem oX1_requireState : jcode yX1_requireState mX1_requireState := q2670
theorem pX1_requireState : jpar yX1_requireState 1 := ⟨by decide +kernel, by decide +kernel, by decide +kernel⟩
theorem sp_X1_requireState_ok (l : Launch) (G : jG) (b : Bool) (hb : b = true) : jS l G yX1_requireState mX1_requireState 6 [.int (jB b)] [] (0) (jret (fun v9 Ψ => v9 = none ∧ Ψ = [])) := by
  refine jS_of (plainFor_of_name (by decide)) rfl rfl rfl (Nat.le_of_ble_eq_true rfl) (fun X => ?_)
  show jT mX1_requireState l G _ _ _ X [] 0 [(0, .int (jB b))] [] _
  refine jlv_iload_n dX1_requireState_0 rfl 0 rfl ?_
  refine ji_bz_ne 12 dX1_requireState_1 (by decide) (fun h_179 => ?_) (fun h_179 => ?_)
  · skip
    exact jr_vret dX1_requireState_12 rfl (Ψ := []) ⟨rfl, rfl⟩ (js_pickP [] [] rfl trivial rfl)
  · skip
    exfalso; first | omega | simp_all | (simp_all; omega)

theorem sp_X1_requireState_no (l : Launch) (G : jG) (b : Bool) (hb : b = false) : jS l G yX1_requireState mX1_requireState 6 [.int (jB b)] [] (2) (jthr (fun q9 Ψ => ∃ q : Nat, q9 = q ∧ Ψ = [im q 10 []])) := by
  refine jS_of (plainFor_of_name (by decide)) rfl rfl rfl (Nat.le_of_ble_eq_true rfl) (fun X => ?_)
  show jT mX1_requireState l G _ _ _ X [] 0 [(0, .int (jB b))] [] _
  refine jlv_iload_n dX1_requireState_0 rfl 0 rfl ?_
  refine ji_bz_ne 12 dX1_requireState_1 (by decide) (fun h_180 => ?_) (fun h_180 => ?_)
  · skip
    exfalso; first | omega | simp_all | (simp_all; omega)
  · skip
    refine jr_throw0 10 rfl ["java/lang/RuntimeException", "java/lang/Exception"] (by decide +kernel) (by decide +kernel) q2671 q106 (jm_c q89 (jm_c q421 (jm_c q430 (jm_c q442 (jm_c q445 (jm_c q447 (jm_c q422 (jm_c q423 (jm_c q161 (jm_c q162 (jm_c q424 (jm_c q429 (jm_c q443 (jm_c q651 (jm_c q411 (jm_c q652 (jm_c q413 (jm_c q653 (jm_c q415 (jm_c q425 (jm_c q427 (jm_c q417 (jm_c q2681 (jm_c q2682 (jm_c q2683 (jm_c q741 (jm_c q741 (jm_c q742 (jm_c q743 (jm_c q744 (jm_c q744 (jm_c q745 (jm_c q746 (jm_c q422 (jm_c q2680 (jm_c q2672 (jm_c q2674 (jm_c q437 (jm_c q2675 (jm_c q2676 (jm_c q2677 (jm_c q2678 (jm_c q420 (jm_c q419 (jm_c q2679 (jm_n)))))))))))))))))))))))))))))))))))))))))))))) (by decide +kernel) (jm_d (List.mem_of_getElem? (i := 12) rfl) (jm_d (List.mem_of_getElem? (i := 10) rfl) (jm_d (List.mem_of_getElem? (i := 8) rfl) (jm_k (List.mem_of_getElem? (i := 43) rfl) (jm_o))))) (by decide +kernel) (by decide +kernel) dX1_requireState_4 dX1_requireState_7 dX1_requireState_8 dX1_requireState_11 rfl (by decide) (by decide) (by omega) (Ψ := fun q => [im q 10 []]) (fun q => ⟨q, rfl, rfl⟩) (fun q => js_pickP [0] [] rfl trivial rfl)

abbrev mX1_requireThere : jM := (cX1_requireThere, RX1, 1, (Option.none : Option FieldType), "requireThere", none)
theorem oX1_requireThere : jcode yX1_requireThere mX1_requireThere := q1617
theorem pX1_requireThere : jpar yX1_requireThere 1 := ⟨by decide +kernel, by decide +kernel, by decide +kernel⟩
theorem sp_X1_requireThere_ok (l : Launch) (G : jG) (b : Bool) (hb : b = true) : jS l G yX1_requireThere mX1_requireThere 6 [.int (jB b)] [] (0) (jret (fun v9 Ψ => v9 = none ∧ Ψ = [])) := by
  refine jS_of (plainFor_of_name (by decide)) rfl rfl rfl (Nat.le_of_ble_eq_true rfl) (fun X => ?_)
  show jT mX1_requireThere l G _ _ _ X [] 0 [(0, .int (jB b))] [] _
  refine jlv_iload_n dX1_requireThere_0 rfl 0 rfl ?_
  refine ji_bz_ne 12 dX1_requireThere_1 (by decide) (fun h_181 => ?_) (fun h_181 => ?_)
  · skip
    exact jr_vret dX1_requireThere_12 rfl (Ψ := []) ⟨rfl, rfl⟩ (js_pickP [] [] rfl trivial rfl)
  · skip
    exfalso; first | omega | simp_all | (simp_all; omega)

theorem sp_X1_requireThere_no (l : Launch) (G : jG) (b : Bool) (hb : b = false) : jS l G yX1_requireThere mX1_requireThere 6 [.int (jB b)] [] (2) (jthr (fun q9 Ψ => ∃ q : Nat, q9 = q ∧ Ψ = [im q 20 []])) := by
  refine jS_of (plainFor_of_name (by decide)) rfl rfl rfl (Nat.le_of_ble_eq_true rfl) (fun X => ?_)
  show jT mX1_requireThere l G _ _ _ X [] 0 [(0, .int (jB b))] [] _
  refine jlv_iload_n dX1_requireThere_0 rfl 0 rfl ?_
  refine ji_bz_ne 12 dX1_requireThere_1 (by decide) (fun h_182 => ?_) (fun h_182 => ?_)
  · skip
    exfalso; first | omega | simp_all | (simp_all; omega)
  · skip
    refine jr_throw0 20 rfl ["java/lang/RuntimeException", "java/lang/Exception"] (by decide +kernel) (by decide +kernel) q1618 q127 (jm_c q89 (jm_c q421 (jm_c q430 (jm_c q442 (jm_c q445 (jm_c q447 (jm_c q422 (jm_c q423 (jm_c q161 (jm_c q162 (jm_c q424 (jm_c q429 (jm_c q443 (jm_c q651 (jm_c q411 (jm_c q652 (jm_c q413 (jm_c q653 (jm_c q415 (jm_c q425 (jm_c q427 (jm_c q417 (jm_c q1628 (jm_c q1629 (jm_c q1630 (jm_c q741 (jm_c q741 (jm_c q742 (jm_c q743 (jm_c q744 (jm_c q744 (jm_c q745 (jm_c q746 (jm_c q422 (jm_c q1627 (jm_c q1619 (jm_c q1621 (jm_c q441 (jm_c q1622 (jm_c q1623 (jm_c q1624 (jm_c q1625 (jm_c q420 (jm_c q419 (jm_c q1626 (jm_n)))))))))))))))))))))))))))))))))))))))))))))) (by decide +kernel) (jm_d (List.mem_of_getElem? (i := 12) rfl) (jm_d (List.mem_of_getElem? (i := 10) rfl) (jm_d (List.mem_of_getElem? (i := 8) rfl) (jm_k (List.mem_of_getElem? (i := 89) rfl) (jm_o))))) (by decide +kernel) (by decide +kernel) dX1_requireThere_4 dX1_requireThere_7 dX1_requireThere_8 dX1_requireThere_11 rfl (by decide) (by decide) (by omega) (Ψ := fun q => [im q 20 []]) (fun q => ⟨q, rfl, rfl⟩) (fun q => js_pickP [0] [] rfl trivial rfl)

abbrev mX1_requireSupported : jM := (cX1_requireSupported, RX1, 1, (Option.none : Option FieldType), "requireSupported", none)
theorem oX1_requireSupported : jcode yX1_requireSupported mX1_requireSupported := q2714
theorem pX1_requireSupported : jpar yX1_requireSupported 1 := ⟨by decide +kernel, by decide +kernel, by decide +kernel⟩
theorem sp_X1_requireSupported_ok (l : Launch) (G : jG) (b : Bool) (hb : b = true) : jS l G yX1_requireSupported mX1_requireSupported 6 [.int (jB b)] [] (0) (jret (fun v9 Ψ => v9 = none ∧ Ψ = [])) := by
  refine jS_of (plainFor_of_name (by decide)) rfl rfl rfl (Nat.le_of_ble_eq_true rfl) (fun X => ?_)
  show jT mX1_requireSupported l G _ _ _ X [] 0 [(0, .int (jB b))] [] _
  refine jlv_iload_n dX1_requireSupported_0 rfl 0 rfl ?_
  refine ji_bz_ne 12 dX1_requireSupported_1 (by decide) (fun h_183 => ?_) (fun h_183 => ?_)
  · skip
    exact jr_vret dX1_requireSupported_12 rfl (Ψ := []) ⟨rfl, rfl⟩ (js_pickP [] [] rfl trivial rfl)
  · skip
    exfalso; first | omega | simp_all | (simp_all; omega)

theorem sp_X1_requireSupported_no (l : Launch) (G : jG) (b : Bool) (hb : b = false) : jS l G yX1_requireSupported mX1_requireSupported 6 [.int (jB b)] [] (2) (jthr (fun q9 Ψ => ∃ q : Nat, q9 = q ∧ Ψ = [im q 4 []])) := by
  refine jS_of (plainFor_of_name (by decide)) rfl rfl rfl (Nat.le_of_ble_eq_true rfl) (fun X => ?_)
  show jT mX1_requireSupported l G _ _ _ X [] 0 [(0, .int (jB b))] [] _
  refine jlv_iload_n dX1_requireSupported_0 rfl 0 rfl ?_
  refine ji_bz_ne 12 dX1_requireSupported_1 (by decide) (fun h_184 => ?_) (fun h_184 => ?_)
  · skip
    exfalso; first | omega | simp_all | (simp_all; omega)
  · skip
    refine jr_throw0 4 rfl ["java/lang/RuntimeException", "java/lang/Exception"] (by decide +kernel) (by decide +kernel) q2715 q92 (jm_c q89 (jm_c q421 (jm_c q430 (jm_c q442 (jm_c q445 (jm_c q447 (jm_c q422 (jm_c q423 (jm_c q161 (jm_c q162 (jm_c q424 (jm_c q429 (jm_c q443 (jm_c q651 (jm_c q411 (jm_c q652 (jm_c q413 (jm_c q653 (jm_c q415 (jm_c q425 (jm_c q427 (jm_c q417 (jm_c q738 (jm_c q739 (jm_c q740 (jm_c q741 (jm_c q741 (jm_c q742 (jm_c q743 (jm_c q744 (jm_c q744 (jm_c q745 (jm_c q746 (jm_c q422 (jm_c q2716 (jm_c q729 (jm_c q731 (jm_c q439 (jm_c q732 (jm_c q733 (jm_c q734 (jm_c q735 (jm_c q420 (jm_c q419 (jm_c q736 (jm_n)))))))))))))))))))))))))))))))))))))))))))))) (by decide +kernel) (jm_d (List.mem_of_getElem? (i := 12) rfl) (jm_d (List.mem_of_getElem? (i := 10) rfl) (jm_d (List.mem_of_getElem? (i := 8) rfl) (jm_k (List.mem_of_getElem? (i := 60) rfl) (jm_o))))) (by decide +kernel) (by decide +kernel) dX1_requireSupported_4 dX1_requireSupported_7 dX1_requireSupported_8 dX1_requireSupported_11 rfl (by decide) (by decide) (by omega) (Ψ := fun q => [im q 4 []]) (fun q => ⟨q, rfl, rfl⟩) (fun q => js_pickP [0] [] rfl trivial rfl)

abbrev mX1_requireSome : jM := (cX1_requireSome, RX1, 1, (Option.none : Option FieldType), "requireSome", none)
theorem oX1_requireSome : jcode yX1_requireSome mX1_requireSome := q3278
theorem pX1_requireSome : jpar yX1_requireSome 1 := ⟨by decide +kernel, by decide +kernel, by decide +kernel⟩
theorem sp_X1_requireSome_ok (l : Launch) (G : jG) (b : Bool) (hb : b = true) : jS l G yX1_requireSome mX1_requireSome 6 [.int (jB b)] [] (0) (jret (fun v9 Ψ => v9 = none ∧ Ψ = [])) := by
  refine jS_of (plainFor_of_name (by decide)) rfl rfl rfl (Nat.le_of_ble_eq_true rfl) (fun X => ?_)
  show jT mX1_requireSome l G _ _ _ X [] 0 [(0, .int (jB b))] [] _
  refine jlv_iload_n dX1_requireSome_0 rfl 0 rfl ?_
  refine ji_bz_ne 12 dX1_requireSome_1 (by decide) (fun h_185 => ?_) (fun h_185 => ?_)
  · skip
    exact jr_vret dX1_requireSome_12 rfl (Ψ := []) ⟨rfl, rfl⟩ (js_pickP [] [] rfl trivial rfl)
  · skip
    exfalso; first | omega | simp_all | (simp_all; omega)

theorem sp_X1_requireSome_no (l : Launch) (G : jG) (b : Bool) (hb : b = false) : jS l G yX1_requireSome mX1_requireSome 6 [.int (jB b)] [] (2) (jthr (fun q9 Ψ => ∃ q : Nat, q9 = q ∧ Ψ = [im q 27 []])) := by
  refine jS_of (plainFor_of_name (by decide)) rfl rfl rfl (Nat.le_of_ble_eq_true rfl) (fun X => ?_)
  show jT mX1_requireSome l G _ _ _ X [] 0 [(0, .int (jB b))] [] _
  refine jlv_iload_n dX1_requireSome_0 rfl 0 rfl ?_
  refine ji_bz_ne 12 dX1_requireSome_1 (by decide) (fun h_186 => ?_) (fun h_186 => ?_)
  · skip
    exfalso; first | omega | simp_all | (simp_all; omega)
  · skip
    refine jr_throw0 27 rfl ["java/lang/RuntimeException", "java/lang/Exception"] (by decide +kernel) (by decide +kernel) q3279 q154 (jm_c q89 (jm_c q421 (jm_c q430 (jm_c q442 (jm_c q445 (jm_c q447 (jm_c q422 (jm_c q423 (jm_c q161 (jm_c q162 (jm_c q424 (jm_c q429 (jm_c q443 (jm_c q651 (jm_c q411 (jm_c q652 (jm_c q413 (jm_c q653 (jm_c q415 (jm_c q425 (jm_c q427 (jm_c q417 (jm_c q3281 (jm_c q3282 (jm_c q3283 (jm_c q741 (jm_c q741 (jm_c q742 (jm_c q743 (jm_c q744 (jm_c q744 (jm_c q745 (jm_c q746 (jm_c q422 (jm_c q3280 (jm_c q3259 (jm_c q3271 (jm_c q434 (jm_c q3265 (jm_c q3266 (jm_c q3268 (jm_c q3264 (jm_c q420 (jm_c q419 (jm_c q3263 (jm_n)))))))))))))))))))))))))))))))))))))))))))))) (by decide +kernel) (jm_d (List.mem_of_getElem? (i := 12) rfl) (jm_d (List.mem_of_getElem? (i := 10) rfl) (jm_d (List.mem_of_getElem? (i := 8) rfl) (jm_k (List.mem_of_getElem? (i := 34) rfl) (jm_o))))) (by decide +kernel) (by decide +kernel) dX1_requireSome_4 dX1_requireSome_7 dX1_requireSome_8 dX1_requireSome_11 rfl (by decide) (by decide) (by omega) (Ψ := fun q => [im q 27 []]) (fun q => ⟨q, rfl, rfl⟩) (fun q => js_pickP [0] [] rfl trivial rfl)

abbrev mX1_isSmall : jM := (cX1_isSmall, RX1, 1, (Option.some FieldType.boolean), "isSmall", none)
theorem oX1_isSmall : jcode yX1_isSmall mX1_isSmall := q1562
theorem pX1_isSmall : jpar yX1_isSmall 1 := ⟨by decide +kernel, by decide +kernel, by decide +kernel⟩
theorem sp_X_isSmall (l : Launch) (G : jG) (c : Nat) (hc : c < 65536) : jS l G yX1_isSmall mX1_isSmall 1 [.int (iI (c : Int))] [] (0) (jret (fun v9 Ψ => v9 = some (.int (jB (isSm c))) ∧ Ψ = [])) := by
  refine jS_of (plainFor_of_name (by decide)) rfl rfl rfl (Nat.le_of_ble_eq_true rfl) (fun X => ?_)
  show jT mX1_isSmall l G _ _ _ X [] 0 [(0, .int (iI (c : Int)))] [] _
  refine jlv_iload_n dX1_isSmall_0 rfl 0 rfl ?_
  refine ji_bipush (by decide) dX1_isSmall_1 ?_
  refine ji_icmp_lt 16 (by omega) (by omega) dX1_isSmall_3 (by decide) (fun h_187 => ?_) (fun h_187 => ?_)
  · skip
    refine jlv_iconst (v := iI 0) dX1_isSmall_16 rfl ?_
    exact jr_zret dX1_isSmall_17 rfl rfl (Ψ := []) ⟨(by first | rfl | (congr 2; omega) | (congr 3; omega) | (congr 4; omega) | (congr 2; first | exact jB_t (decide_eq_true (by first | assumption | omega)) | exact jB_f (decide_eq_false (by first | assumption | omega))) | (congr 2; first | exact jB_t (by simp [*]; done) | exact jB_f (by simp [*]; done) | exact jB_t (by simp_all []; done) | exact jB_f (by simp_all []; done)) | (congr 2; simp_all []; done) | (congr 2; simp_all []; omega) | (congr 3; simp_all []; omega) | (simp_all []; done) | (simp_all []; omega)), rfl⟩ (js_pickP [] [] rfl trivial rfl)
  · skip
    refine jlv_iload_n dX1_isSmall_6 rfl 0 rfl ?_
    refine ji_bipush (by decide) dX1_isSmall_7 ?_
    refine ji_icmp_gt 16 (by omega) (by omega) dX1_isSmall_9 (by decide) (fun h_188 => ?_) (fun h_188 => ?_)
    · skip
      refine jlv_iconst (v := iI 0) dX1_isSmall_16 rfl ?_
      exact jr_zret dX1_isSmall_17 rfl rfl (Ψ := []) ⟨(by first | rfl | (congr 2; omega) | (congr 3; omega) | (congr 4; omega) | (congr 2; first | exact jB_t (decide_eq_true (by first | assumption | omega)) | exact jB_f (decide_eq_false (by first | assumption | omega))) | (congr 2; first | exact jB_t (by simp [*]; done) | exact jB_f (by simp [*]; done) | exact jB_t (by simp_all []; done) | exact jB_f (by simp_all []; done)) | (congr 2; simp_all []; done) | (congr 2; simp_all []; omega) | (congr 3; simp_all []; omega) | (simp_all []; done) | (simp_all []; omega)), rfl⟩ (js_pickP [] [] rfl trivial rfl)
    · skip
      refine jlv_iconst (v := iI 1) dX1_isSmall_12 rfl ?_
      refine jlv_goto (tgt := 17) dX1_isSmall_13 (by decide) ?_
      exact jr_zret dX1_isSmall_17 rfl rfl (Ψ := []) ⟨(by first | rfl | (congr 2; omega) | (congr 3; omega) | (congr 4; omega) | (congr 2; first | exact jB_t (decide_eq_true (by first | assumption | omega)) | exact jB_f (decide_eq_false (by first | assumption | omega))) | (congr 2; first | exact jB_t (by simp [*]; done) | exact jB_f (by simp [*]; done) | exact jB_t (by simp_all []; done) | exact jB_f (by simp_all []; done)) | (congr 2; simp_all []; done) | (congr 2; simp_all []; omega) | (congr 3; simp_all []; omega) | (simp_all []; done) | (simp_all []; omega)), rfl⟩ (js_pickP [] [] rfl trivial rfl)

abbrev mX1_isCapital : jM := (cX1_isCapital, RX1, 1, (Option.some FieldType.boolean), "isCapital", none)
theorem oX1_isCapital : jcode yX1_isCapital mX1_isCapital := q2266
theorem pX1_isCapital : jpar yX1_isCapital 1 := ⟨by decide +kernel, by decide +kernel, by decide +kernel⟩
theorem sp_X_isCapital (l : Launch) (G : jG) (c : Nat) (hc : c < 65536) : jS l G yX1_isCapital mX1_isCapital 1 [.int (iI (c : Int))] [] (0) (jret (fun v9 Ψ => v9 = some (.int (jB (isCp c))) ∧ Ψ = [])) := by
  refine jS_of (plainFor_of_name (by decide)) rfl rfl rfl (Nat.le_of_ble_eq_true rfl) (fun X => ?_)
  show jT mX1_isCapital l G _ _ _ X [] 0 [(0, .int (iI (c : Int)))] [] _
  refine jlv_iload_n dX1_isCapital_0 rfl 0 rfl ?_
  refine ji_bipush (by decide) dX1_isCapital_1 ?_
  refine ji_icmp_lt 16 (by omega) (by omega) dX1_isCapital_3 (by decide) (fun h_189 => ?_) (fun h_189 => ?_)
  · skip
    refine jlv_iconst (v := iI 0) dX1_isCapital_16 rfl ?_
    exact jr_zret dX1_isCapital_17 rfl rfl (Ψ := []) ⟨(by first | rfl | (congr 2; omega) | (congr 3; omega) | (congr 4; omega) | (congr 2; first | exact jB_t (decide_eq_true (by first | assumption | omega)) | exact jB_f (decide_eq_false (by first | assumption | omega))) | (congr 2; first | exact jB_t (by simp [*]; done) | exact jB_f (by simp [*]; done) | exact jB_t (by simp_all []; done) | exact jB_f (by simp_all []; done)) | (congr 2; simp_all []; done) | (congr 2; simp_all []; omega) | (congr 3; simp_all []; omega) | (simp_all []; done) | (simp_all []; omega)), rfl⟩ (js_pickP [] [] rfl trivial rfl)
  · skip
    refine jlv_iload_n dX1_isCapital_6 rfl 0 rfl ?_
    refine ji_bipush (by decide) dX1_isCapital_7 ?_
    refine ji_icmp_gt 16 (by omega) (by omega) dX1_isCapital_9 (by decide) (fun h_190 => ?_) (fun h_190 => ?_)
    · skip
      refine jlv_iconst (v := iI 0) dX1_isCapital_16 rfl ?_
      exact jr_zret dX1_isCapital_17 rfl rfl (Ψ := []) ⟨(by first | rfl | (congr 2; omega) | (congr 3; omega) | (congr 4; omega) | (congr 2; first | exact jB_t (decide_eq_true (by first | assumption | omega)) | exact jB_f (decide_eq_false (by first | assumption | omega))) | (congr 2; first | exact jB_t (by simp [*]; done) | exact jB_f (by simp [*]; done) | exact jB_t (by simp_all []; done) | exact jB_f (by simp_all []; done)) | (congr 2; simp_all []; done) | (congr 2; simp_all []; omega) | (congr 3; simp_all []; omega) | (simp_all []; done) | (simp_all []; omega)), rfl⟩ (js_pickP [] [] rfl trivial rfl)
    · skip
      refine jlv_iconst (v := iI 1) dX1_isCapital_12 rfl ?_
      refine jlv_goto (tgt := 17) dX1_isCapital_13 (by decide) ?_
      exact jr_zret dX1_isCapital_17 rfl rfl (Ψ := []) ⟨(by first | rfl | (congr 2; omega) | (congr 3; omega) | (congr 4; omega) | (congr 2; first | exact jB_t (decide_eq_true (by first | assumption | omega)) | exact jB_f (decide_eq_false (by first | assumption | omega))) | (congr 2; first | exact jB_t (by simp [*]; done) | exact jB_f (by simp [*]; done) | exact jB_t (by simp_all []; done) | exact jB_f (by simp_all []; done)) | (congr 2; simp_all []; done) | (congr 2; simp_all []; omega) | (congr 3; simp_all []; omega) | (simp_all []; done) | (simp_all []; omega)), rfl⟩ (js_pickP [] [] rfl trivial rfl)

abbrev mX1_isLetter : jM := (cX1_isLetter, RX1, 1, (Option.some FieldType.boolean), "isLetter", none)
theorem oX1_isLetter : jcode yX1_isLetter mX1_isLetter := q2263
theorem pX1_isLetter : jpar yX1_isLetter 1 := ⟨by decide +kernel, by decide +kernel, by decide +kernel⟩
theorem sp_X_isLetter (l : Launch) (G : jG) (c : Nat) (hc : c < 65536) : jS l G yX1_isLetter mX1_isLetter 2 [.int (iI (c : Int))] [] (0) (jret (fun v9 Ψ => v9 = some (.int (jB (isLt c))) ∧ Ψ = [])) := by
  refine jS_of (plainFor_of_name (by decide)) rfl rfl rfl (Nat.le_of_ble_eq_true rfl) (fun X => ?_)
  show jT mX1_isLetter l G _ _ _ X [] 0 [(0, .int (iI (c : Int)))] [] _
  refine jlv_iload_n dX1_isLetter_0 rfl 0 rfl ?_
  refine jr_callS [.int (iI (c : Int))] (sp_X_isSmall l G c ((by first | assumption | omega | (dsimp only; omega) | rfl | simp_all))) (rest := []) q2212 q1561 q75 oX1_isSmall pX1_isSmall (by decide) (by decide) (Nat.le_of_ble_eq_true rfl) [] [] rfl trivial (Φr := []) rfl (by first | omega | exact Nat.zero_le _) dX1_isLetter_1 (fun v9 Ψ hq => ?_) (fun _ _ hq => hq.elim)
  obtain ⟨rfl, rfl⟩ := hq
  show jT mX1_isLetter l G _ _ _ X [] 4 [(0, .int (iI (c : Int)))] [.int (jB (isSm c))] _
  refine ji_bz_ne 14 dX1_isLetter_4 (by decide) (fun h_191 => ?_) (fun h_191 => ?_)
  · skip
    refine jlv_iconst (v := iI 1) dX1_isLetter_14 rfl ?_
    refine jlv_goto (tgt := 19) dX1_isLetter_15 (by decide) ?_
    exact jr_zret dX1_isLetter_19 rfl rfl (Ψ := []) ⟨(by first | rfl | (congr 2; omega) | (congr 3; omega) | (congr 4; omega) | (congr 2; first | exact jB_t (decide_eq_true (by first | assumption | omega)) | exact jB_f (decide_eq_false (by first | assumption | omega))) | (congr 2; first | exact jB_t (by simp [isLt, *]; done) | exact jB_f (by simp [isLt, *]; done) | exact jB_t (by simp_all [isLt]; done) | exact jB_f (by simp_all [isLt]; done)) | (congr 2; simp_all [isLt]; done) | (congr 2; simp_all [isLt]; omega) | (congr 3; simp_all [isLt]; omega) | (simp_all [isLt]; done) | (simp_all [isLt]; omega)), rfl⟩ (js_pickP [] [] rfl trivial rfl)
  · skip
    refine jlv_iload_n dX1_isLetter_7 rfl 0 rfl ?_
    refine jr_callS [.int (iI (c : Int))] (sp_X_isCapital l G c ((by first | assumption | omega | (dsimp only; omega) | rfl | simp_all))) (rest := []) q2264 q2265 q75 oX1_isCapital pX1_isCapital (by decide) (by decide) (Nat.le_of_ble_eq_true rfl) [] [] rfl trivial (Φr := []) rfl (by first | omega | exact Nat.zero_le _) dX1_isLetter_8 (fun v9 Ψ hq => ?_) (fun _ _ hq => hq.elim)
    obtain ⟨rfl, rfl⟩ := hq
    show jT mX1_isLetter l G _ _ _ X [] 11 [(0, .int (iI (c : Int)))] [.int (jB (isCp c))] _
    refine ji_bz_eq 18 dX1_isLetter_11 (by decide) (fun h_192 => ?_) (fun h_192 => ?_)
    · skip
      refine jlv_iconst (v := iI 0) dX1_isLetter_18 rfl ?_
      exact jr_zret dX1_isLetter_19 rfl rfl (Ψ := []) ⟨(by first | rfl | (congr 2; omega) | (congr 3; omega) | (congr 4; omega) | (congr 2; first | exact jB_t (decide_eq_true (by first | assumption | omega)) | exact jB_f (decide_eq_false (by first | assumption | omega))) | (congr 2; first | exact jB_t (by simp [isLt, *]; done) | exact jB_f (by simp [isLt, *]; done) | exact jB_t (by simp_all [isLt]; done) | exact jB_f (by simp_all [isLt]; done)) | (congr 2; simp_all [isLt]; done) | (congr 2; simp_all [isLt]; omega) | (congr 3; simp_all [isLt]; omega) | (simp_all [isLt]; done) | (simp_all [isLt]; omega)), rfl⟩ (js_pickP [] [] rfl trivial rfl)
    · skip
      refine jlv_iconst (v := iI 1) dX1_isLetter_14 rfl ?_
      refine jlv_goto (tgt := 19) dX1_isLetter_15 (by decide) ?_
      exact jr_zret dX1_isLetter_19 rfl rfl (Ψ := []) ⟨(by first | rfl | (congr 2; omega) | (congr 3; omega) | (congr 4; omega) | (congr 2; first | exact jB_t (decide_eq_true (by first | assumption | omega)) | exact jB_f (decide_eq_false (by first | assumption | omega))) | (congr 2; first | exact jB_t (by simp [isLt, *]; done) | exact jB_f (by simp [isLt, *]; done) | exact jB_t (by simp_all [isLt]; done) | exact jB_f (by simp_all [isLt]; done)) | (congr 2; simp_all [isLt]; done) | (congr 2; simp_all [isLt]; omega) | (congr 3; simp_all [isLt]; omega) | (simp_all [isLt]; done) | (simp_all [isLt]; omega)), rfl⟩ (js_pickP [] [] rfl trivial rfl)

abbrev mX1_small : jM := (cX1_small, RX1, 1, (Option.some FieldType.char), "small", none)
theorem oX1_small : jcode yX1_small mX1_small := q2273
theorem pX1_small : jpar yX1_small 1 := ⟨by decide +kernel, by decide +kernel, by decide +kernel⟩
theorem sp_X_small (l : Launch) (G : jG) (c : Nat) (hc : c < 65536) : jS l G yX1_small mX1_small 2 [.int (iI (c : Int))] [] (0) (jret (fun v9 Ψ => v9 = some (.int (iI (smC c : Int))) ∧ Ψ = [])) := by
  refine jS_of (plainFor_of_name (by decide)) rfl rfl rfl (Nat.le_of_ble_eq_true rfl) (fun X => ?_)
  show jT mX1_small l G _ _ _ X [] 0 [(0, .int (iI (c : Int)))] [] _
  refine jlv_iload_n dX1_small_0 rfl 0 rfl ?_
  refine jr_callS [.int (iI (c : Int))] (sp_X_isCapital l G c ((by first | assumption | omega | (dsimp only; omega) | rfl | simp_all))) (rest := []) q2264 q2265 q75 oX1_isCapital pX1_isCapital (by decide) (by decide) (Nat.le_of_ble_eq_true rfl) [] [] rfl trivial (Φr := []) rfl (by first | omega | exact Nat.zero_le _) dX1_small_1 (fun v9 Ψ hq => ?_) (fun _ _ hq => hq.elim)
  obtain ⟨rfl, rfl⟩ := hq
  show jT mX1_small l G _ _ _ X [] 4 [(0, .int (iI (c : Int)))] [.int (jB (isCp c))] _
  refine ji_bz_eq 15 dX1_small_4 (by decide) (fun h_193 => ?_) (fun h_193 => ?_)
  · skip
    refine jlv_iload_n dX1_small_15 rfl 0 rfl ?_
    exact jr_zret dX1_small_16 rfl (jn_char (by omega)) (Ψ := []) ⟨(by first | rfl | (congr 2; omega) | (congr 3; omega) | (congr 4; omega) | (congr 2; first | exact jB_t (decide_eq_true (by first | assumption | omega)) | exact jB_f (decide_eq_false (by first | assumption | omega))) | (congr 2; first | exact jB_t (by simp [smC, *]; done) | exact jB_f (by simp [smC, *]; done) | exact jB_t (by simp_all [smC]; done) | exact jB_f (by simp_all [smC]; done)) | (congr 2; simp_all [smC]; done) | (congr 2; simp_all [smC]; omega) | (congr 3; simp_all [smC]; omega) | (simp_all [smC]; done) | (simp_all [smC]; omega)), rfl⟩ (js_pickP [] [] rfl trivial rfl)
  · skip
    refine jlv_iload_n dX1_small_7 rfl 0 rfl ?_
    refine ji_bipush (by decide) dX1_small_8 ?_
    refine ji_iadd ((c : Int) + 32) (by omega) dX1_small_10 ?_
    have hcr : 65 ≤ c ∧ c ≤ 90 := of_decide_eq_true ‹isCp c = true›
    refine ji_i2c ((c : Int) + 32) (by omega) dX1_small_11 ?_
    refine jlv_goto (tgt := 16) dX1_small_12 (by decide) ?_
    exact jr_zret dX1_small_16 rfl (jn_char (by omega)) (Ψ := []) ⟨(by first | rfl | (congr 2; omega) | (congr 3; omega) | (congr 4; omega) | (congr 2; first | exact jB_t (decide_eq_true (by first | assumption | omega)) | exact jB_f (decide_eq_false (by first | assumption | omega))) | (congr 2; first | exact jB_t (by simp [smC, *]; done) | exact jB_f (by simp [smC, *]; done) | exact jB_t (by simp_all [smC]; done) | exact jB_f (by simp_all [smC]; done)) | (congr 2; simp_all [smC]; done) | (congr 2; simp_all [smC]; omega) | (congr 3; simp_all [smC]; omega) | (simp_all [smC]; done) | (simp_all [smC]; omega)), rfl⟩ (js_pickP [] [] rfl trivial rfl)

abbrev mX1_capital : jM := (cX1_capital, RX1, 1, (Option.some FieldType.char), "capital", none)
theorem oX1_capital : jcode yX1_capital mX1_capital := q2211
theorem pX1_capital : jpar yX1_capital 1 := ⟨by decide +kernel, by decide +kernel, by decide +kernel⟩
theorem sp_X_capital (l : Launch) (G : jG) (c : Nat) (hc : c < 65536) : jS l G yX1_capital mX1_capital 2 [.int (iI (c : Int))] [] (0) (jret (fun v9 Ψ => v9 = some (.int (iI (cpC c : Int))) ∧ Ψ = [])) := by
  refine jS_of (plainFor_of_name (by decide)) rfl rfl rfl (Nat.le_of_ble_eq_true rfl) (fun X => ?_)
  show jT mX1_capital l G _ _ _ X [] 0 [(0, .int (iI (c : Int)))] [] _
  refine jlv_iload_n dX1_capital_0 rfl 0 rfl ?_
  refine jr_callS [.int (iI (c : Int))] (sp_X_isSmall l G c ((by first | assumption | omega | (dsimp only; omega) | rfl | simp_all))) (rest := []) q2212 q1561 q75 oX1_isSmall pX1_isSmall (by decide) (by decide) (Nat.le_of_ble_eq_true rfl) [] [] rfl trivial (Φr := []) rfl (by first | omega | exact Nat.zero_le _) dX1_capital_1 (fun v9 Ψ hq => ?_) (fun _ _ hq => hq.elim)
  obtain ⟨rfl, rfl⟩ := hq
  show jT mX1_capital l G _ _ _ X [] 4 [(0, .int (iI (c : Int)))] [.int (jB (isSm c))] _
  refine ji_bz_eq 15 dX1_capital_4 (by decide) (fun h_194 => ?_) (fun h_194 => ?_)
  · skip
    refine jlv_iload_n dX1_capital_15 rfl 0 rfl ?_
    exact jr_zret dX1_capital_16 rfl (jn_char (by omega)) (Ψ := []) ⟨(by first | rfl | (congr 2; omega) | (congr 3; omega) | (congr 4; omega) | (congr 2; first | exact jB_t (decide_eq_true (by first | assumption | omega)) | exact jB_f (decide_eq_false (by first | assumption | omega))) | (congr 2; first | exact jB_t (by simp [cpC, *]; done) | exact jB_f (by simp [cpC, *]; done) | exact jB_t (by simp_all [cpC]; done) | exact jB_f (by simp_all [cpC]; done)) | (congr 2; simp_all [cpC]; done) | (congr 2; simp_all [cpC]; omega) | (congr 3; simp_all [cpC]; omega) | (simp_all [cpC]; done) | (simp_all [cpC]; omega)), rfl⟩ (js_pickP [] [] rfl trivial rfl)
  · skip
    refine jlv_iload_n dX1_capital_7 rfl 0 rfl ?_
    refine ji_bipush (by decide) dX1_capital_8 ?_
    refine ji_isub ((c : Int) - 32) (by omega) dX1_capital_10 ?_
    have hcr : 97 ≤ c ∧ c ≤ 122 := of_decide_eq_true ‹isSm c = true›
    refine ji_i2c ((c : Int) - 32) (by omega) dX1_capital_11 ?_
    refine jlv_goto (tgt := 16) dX1_capital_12 (by decide) ?_
    exact jr_zret dX1_capital_16 rfl (jn_char (by omega)) (Ψ := []) ⟨(by first | rfl | (congr 2; omega) | (congr 3; omega) | (congr 4; omega) | (congr 2; first | exact jB_t (decide_eq_true (by first | assumption | omega)) | exact jB_f (decide_eq_false (by first | assumption | omega))) | (congr 2; first | exact jB_t (by simp [cpC, *]; done) | exact jB_f (by simp [cpC, *]; done) | exact jB_t (by simp_all [cpC]; done) | exact jB_f (by simp_all [cpC]; done)) | (congr 2; simp_all [cpC]; done) | (congr 2; simp_all [cpC]; omega) | (congr 3; simp_all [cpC]; omega) | (simp_all [cpC]; done) | (simp_all [cpC]; omega)), rfl⟩ (js_pickP [] [] rfl trivial rfl)

abbrev mX1_isVowel : jM := (cX1_isVowel, RX1, 1, (Option.some FieldType.boolean), "isVowel", none)
theorem oX1_isVowel : jcode yX1_isVowel mX1_isVowel := q2296
theorem pX1_isVowel : jpar yX1_isVowel 1 := ⟨by decide +kernel, by decide +kernel, by decide +kernel⟩
theorem sp_X_isVowel (l : Launch) (G : jG) (c : Nat) (hc : c < 65536) : jS l G yX1_isVowel mX1_isVowel 7 [.int (iI (c : Int))] [] (0) (jret (fun v9 Ψ => v9 = some (.int (jB (isVo c))) ∧ Ψ = [])) := by
  refine jS_of (plainFor_of_name (by decide)) rfl rfl rfl (Nat.le_of_ble_eq_true rfl) (fun X => ?_)
  show jT mX1_isVowel l G _ _ _ X [] 0 [(0, .int (iI (c : Int)))] [] _
  refine jt_konst 0 [97, 101, 105, 111, 117] rfl (by decide) (by decide) ?_
  refine jr_ldcS 0 rfl rfl dX1_isVowel_0 ?_
  refine jlv_iload_n dX1_isVowel_2 rfl 0 rfl ?_
  refine jt_cls 0 rfl jLs_has ?_
  refine jr_callV [.int (iI (c : Int))] (sp_S_indexOf l G (jKA G 0) [97, 101, 105, 111, 117] c ((by first | assumption | omega | (dsimp only; omega) | rfl | simp_all))) (rest := []) 0 rfl rfl rfl q2298 q2128 q2129 q81 oJ5_indexOf pJ5_indexOf (by decide) (by decide) (Nat.le_of_ble_eq_true rfl) [1, 0, 1] [1] rfl ⟨⟨_, rfl, jpers_jLs⟩, trivial⟩ (Φr := [im (jKA G 0) 2 [], jLs (jKA G 0) [97, 101, 105, 111, 117]]) rfl (by first | omega | exact Nat.zero_le _) dX1_isVowel_3 (fun v9 Ψ hq => ?_) (fun _ _ hq => hq.elim)
  obtain ⟨rfl, rfl⟩ := hq
  show jT mX1_isVowel l G _ _ _ X [im (jKA G 0) 2 [], jLs (jKA G 0) [97, 101, 105, 111, 117]] 6 [(0, .int (iI (c : Int)))] [.int (iI (jix [97, 101, 105, 111, 117] c))] _
  have hjx := jix_mem (cs := [97, 101, 105, 111, 117]) (c := c)
  have hjr := jix_rng [97, 101, 105, 111, 117] c
  simp only [List.mem_cons, List.not_mem_nil, or_false, List.length_cons, List.length_nil] at hjx hjr
  refine ji_if_lt 13 (by omega) dX1_isVowel_6 (by decide) (fun h_195 => ?_) (fun h_195 => ?_)
  · skip
    refine jlv_iconst (v := iI 0) dX1_isVowel_13 rfl ?_
    exact jr_zret dX1_isVowel_14 rfl rfl (Ψ := []) ⟨(by first | rfl | (congr 2; omega) | (congr 3; omega) | (congr 4; omega) | (congr 2; first | exact jB_t (decide_eq_true (by first | assumption | omega)) | exact jB_f (decide_eq_false (by first | assumption | omega))) | (congr 2; first | exact jB_t (by simp [*]; done) | exact jB_f (by simp [*]; done) | exact jB_t (by simp_all []; done) | exact jB_f (by simp_all []; done)) | (congr 2; simp_all []; done) | (congr 2; simp_all []; omega) | (congr 3; simp_all []; omega) | (simp_all []; done) | (simp_all []; omega)), rfl⟩ (js_pickP [] [] rfl trivial rfl)
  · skip
    refine jlv_iconst (v := iI 1) dX1_isVowel_9 rfl ?_
    refine jlv_goto (tgt := 14) dX1_isVowel_10 (by decide) ?_
    exact jr_zret dX1_isVowel_14 rfl rfl (Ψ := []) ⟨(by first | rfl | (congr 2; omega) | (congr 3; omega) | (congr 4; omega) | (congr 2; first | exact jB_t (decide_eq_true (by first | assumption | omega)) | exact jB_f (decide_eq_false (by first | assumption | omega))) | (congr 2; first | exact jB_t (by simp [*]; done) | exact jB_f (by simp [*]; done) | exact jB_t (by simp_all []; done) | exact jB_f (by simp_all []; done)) | (congr 2; simp_all []; done) | (congr 2; simp_all []; omega) | (congr 3; simp_all []; omega) | (simp_all []; done) | (simp_all []; omega)), rfl⟩ (js_pickP [] [] rfl trivial rfl)

