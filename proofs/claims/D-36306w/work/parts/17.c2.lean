set_option maxRecDepth 100000
/-- strokes, signs, alternatives, contractions: by their address and what they say -/
def jStroke (x : Nat × Nat × Nat) : jP := jbun (fun _ : Unit => x.2.1 < 65536 ∧ x.2.2 ≤ 1000) (fun _ => [im x.1 32 [.int (iI (x.2.1 : Int)), .int (iI (x.2.2 : Int))]])
def jSign (x : Nat × Nat × Nat × Nat) : jP := jbun (fun _ : Unit => x.2.1 < 256 ∧ x.2.2.1 ≤ 1000 ∧ x.2.2.2 ≤ 1000) (fun _ => [im x.1 37 [.int (iI (x.2.1 : Int)), .int (iI (x.2.2.1 : Int)), .int (iI (x.2.2.2 : Int))]])
def jAlt (x : Nat × Nat × List Nat) : jP := jbun (fun _ : Nat => x.2.1 < 256) (fun v => [im x.1 42 [.int (iI (x.2.1 : Int)), .ref v], jLs v x.2.2])
def jCon (x : Nat × Nat × List Nat) : jP := jbun (fun _ : Nat => x.2.1 < 256) (fun v => [im x.1 47 [.int (iI (x.2.1 : Int)), .ref v], jLs v x.2.2])
theorem jpers_Stroke {x} : jpers (jStroke x) := jpers_bun fun v _ P hP => by rw [List.mem_singleton.mp hP]; exact jpers_A
theorem jpers_Sign {x} : jpers (jSign x) := jpers_bun fun v _ P hP => by rw [List.mem_singleton.mp hP]; exact jpers_A
theorem jpers_Alt {x} : jpers (jAlt x) := jpers_bun fun v _ P hP => by
  rcases List.mem_cons.mp hP with e | e
  · rw [e]; exact jpers_A
  · rw [List.mem_singleton.mp e]; exact jpers_jLs
theorem jpers_Con {x} : jpers (jCon x) := jpers_bun fun v _ P hP => by
  rcases List.mem_cons.mp hP with e | e
  · rw [e]; exact jpers_A
  · rw [List.mem_singleton.mp e]; exact jpers_jLs
theorem jpers_jStroke {x} : jpers (jStroke x) := jpers_Stroke
theorem jpers_jSign {x} : jpers (jSign x) := jpers_Sign
theorem jpers_jAlt {x} : jpers (jAlt x) := jpers_Alt
theorem jpers_jCon {x} : jpers (jCon x) := jpers_Con
theorem jStroke_has {x : Nat × Nat × Nat} : jhas (jStroke x) x.1 32 := jhas_bun fun _ _ => ⟨0, true, _, rfl⟩
theorem jSign_has {x : Nat × Nat × Nat × Nat} : jhas (jSign x) x.1 37 := jhas_bun fun _ _ => ⟨0, true, _, rfl⟩
theorem jAlt_has {x : Nat × Nat × List Nat} : jhas (jAlt x) x.1 42 := jhas_bun fun _ _ => ⟨0, true, _, rfl⟩
theorem jCon_has {x : Nat × Nat × List Nat} : jhas (jCon x) x.1 47 := jhas_bun fun _ _ => ⟨0, true, _, rfl⟩
abbrev mJ27_init : jM := (cJ27_init, RJ27, 1, (Option.none : Option FieldType), "<init>", none)
theorem oJ27_init : jcode yJ27_init mJ27_init := q1981
theorem pJ27_init : jpar yJ27_init 0 := ⟨by decide +kernel, by decide +kernel, by decide +kernel⟩
theorem sp_Record_init (l : Launch) (G : jG) (a : Nat) : jS l G yJ27_init mJ27_init 2 [.ref a] [] (0) (jret (fun v9 Ψ => v9 = none ∧ Ψ = [])) := by
  refine jS_of (plainFor_of_name (by decide)) rfl rfl rfl (Nat.le_of_ble_eq_true rfl) (fun X => ?_)
  show jT mJ27_init l G _ _ _ X [] 0 [(0, .ref a)] [] _
  refine jlv_aload_n dJ27_init_0 rfl 0 rfl ?_
  refine jr_objInit q1982 q161 q162 (by decide) (Nat.le_of_ble_eq_true rfl) dJ27_init_1 ?_
  exact jr_vret dJ27_init_4 rfl (Ψ := []) ⟨rfl, rfl⟩ (js_pickP [] [] rfl trivial rfl)

abbrev mX5_init : jM := (cX5_init, RX5, 3, (Option.none : Option FieldType), "<init>", none)
theorem oX5_init : jcode yX5_init mX5_init := q2737
theorem pX5_init : jpar yX5_init 2 := ⟨by decide +kernel, by decide +kernel, by decide +kernel⟩
theorem sp_Stroke_init (l : Launch) (G : jG) (a : Nat) (x0 : Nat) (x1 : Nat) : jS l G yX5_init mX5_init 3 [.ref a, .int (iI (x0 : Int)), .int (iI (x1 : Int))] [ow a 32 [.int (iI 0), .int (iI 0)]] (0) (jret (fun v9 Ψ => v9 = none ∧ Ψ = [ow a 32 [.int (iI (x0 : Int)), .int (iI (x1 : Int))]])) := by
  refine jS_of (plainFor_of_name (by decide)) rfl rfl rfl (Nat.le_of_ble_eq_true rfl) (fun X => ?_)
  show jT mX5_init l G _ _ _ X [ow a 32 [.int (iI 0), .int (iI 0)]] 0 [(0, .ref a), (1, .int (iI (x0 : Int))), (2, .int (iI (x1 : Int)))] [] _
  refine jlv_aload_n dX5_init_0 rfl 0 rfl ?_
  refine jr_callI [] (sp_Record_init l G a) (rest := []) rfl rfl rfl q2738 q1980 q108 oJ27_init pJ27_init (by decide) (by decide) (Nat.le_of_ble_eq_true rfl) [0] [] rfl trivial (Φr := [ow a 32 [.int (iI 0), .int (iI 0)]]) rfl (by first | omega | exact Nat.zero_le _) dX5_init_1 (fun v9 Ψ hq => ?_) (fun _ _ hq => hq.elim)
  obtain ⟨rfl, rfl⟩ := hq
  show jT mX5_init l G _ _ _ X [ow a 32 [.int (iI 0), .int (iI 0)]] 4 [(0, .ref a), (1, .int (iI (x0 : Int))), (2, .int (iI (x1 : Int)))] [] _
  refine jlv_aload_n dX5_init_4 rfl 0 rfl ?_
  refine jlv_iload_n dX5_init_5 rfl 1 rfl ?_
  refine jr_putF 0 rfl rfl 0 q2739 rfl rfl rfl rfl rfl rfl rfl dX5_init_6 (Φ' := [ow a 32 [.int (iI (x0 : Int)), .int (iI 0)]]) rfl ?_
  refine jlv_aload_n dX5_init_9 rfl 0 rfl ?_
  refine jlv_iload_n dX5_init_10 rfl 2 rfl ?_
  refine jr_putF 0 rfl rfl 1 q2740 rfl rfl rfl rfl rfl rfl rfl dX5_init_11 (Φ' := [ow a 32 [.int (iI (x0 : Int)), .int (iI (x1 : Int))]]) rfl ?_
  exact jr_vret dX5_init_14 rfl (Ψ := [ow a 32 [.int (iI (x0 : Int)), .int (iI (x1 : Int))]]) ⟨rfl, rfl⟩ (js_pickP [0] [] rfl trivial rfl)

abbrev mX10_init : jM := (cX10_init, RX10, 4, (Option.none : Option FieldType), "<init>", none)
theorem oX10_init : jcode yX10_init mX10_init := q2195
theorem pX10_init : jpar yX10_init 3 := ⟨by decide +kernel, by decide +kernel, by decide +kernel⟩
theorem sp_Sign_init (l : Launch) (G : jG) (a : Nat) (x0 : Nat) (x1 : Nat) (x2 : Nat) (h0 : x0 < 65536) : jS l G yX10_init mX10_init 3 [.ref a, .int (iI (x0 : Int)), .int (iI (x1 : Int)), .int (iI (x2 : Int))] [ow a 37 [.int (iI 0), .int (iI 0), .int (iI 0)]] (0) (jret (fun v9 Ψ => v9 = none ∧ Ψ = [ow a 37 [.int (iI (x0 : Int)), .int (iI (x1 : Int)), .int (iI (x2 : Int))]])) := by
  refine jS_of (plainFor_of_name (by decide)) rfl rfl rfl (Nat.le_of_ble_eq_true rfl) (fun X => ?_)
  show jT mX10_init l G _ _ _ X [ow a 37 [.int (iI 0), .int (iI 0), .int (iI 0)]] 0 [(0, .ref a), (1, .int (iI (x0 : Int))), (2, .int (iI (x1 : Int))), (3, .int (iI (x2 : Int)))] [] _
  refine jlv_aload_n dX10_init_0 rfl 0 rfl ?_
  refine jr_callI [] (sp_Record_init l G a) (rest := []) rfl rfl rfl q2196 q1980 q108 oJ27_init pJ27_init (by decide) (by decide) (Nat.le_of_ble_eq_true rfl) [0] [] rfl trivial (Φr := [ow a 37 [.int (iI 0), .int (iI 0), .int (iI 0)]]) rfl (by first | omega | exact Nat.zero_le _) dX10_init_1 (fun v9 Ψ hq => ?_) (fun _ _ hq => hq.elim)
  obtain ⟨rfl, rfl⟩ := hq
  show jT mX10_init l G _ _ _ X [ow a 37 [.int (iI 0), .int (iI 0), .int (iI 0)]] 4 [(0, .ref a), (1, .int (iI (x0 : Int))), (2, .int (iI (x1 : Int))), (3, .int (iI (x2 : Int)))] [] _
  refine jlv_aload_n dX10_init_4 rfl 0 rfl ?_
  refine jlv_iload_n dX10_init_5 rfl 1 rfl ?_
  refine jr_putF 0 rfl rfl 0 q2197 rfl rfl rfl rfl (jn_char (by omega)) (jn_cfits (by omega)) rfl dX10_init_6 (Φ' := [ow a 37 [.int (iI (x0 : Int)), .int (iI 0), .int (iI 0)]]) rfl ?_
  refine jlv_aload_n dX10_init_9 rfl 0 rfl ?_
  refine jlv_iload_n dX10_init_10 rfl 2 rfl ?_
  refine jr_putF 0 rfl rfl 1 q2198 rfl rfl rfl rfl rfl rfl rfl dX10_init_11 (Φ' := [ow a 37 [.int (iI (x0 : Int)), .int (iI (x1 : Int)), .int (iI 0)]]) rfl ?_
  refine jlv_aload_n dX10_init_14 rfl 0 rfl ?_
  refine jlv_iload_n dX10_init_15 rfl 3 rfl ?_
  refine jr_putF 0 rfl rfl 2 q2199 rfl rfl rfl rfl rfl rfl rfl dX10_init_16 (Φ' := [ow a 37 [.int (iI (x0 : Int)), .int (iI (x1 : Int)), .int (iI (x2 : Int))]]) rfl ?_
  exact jr_vret dX10_init_19 rfl (Ψ := [ow a 37 [.int (iI (x0 : Int)), .int (iI (x1 : Int)), .int (iI (x2 : Int))]]) ⟨rfl, rfl⟩ (js_pickP [0] [] rfl trivial rfl)

abbrev mX15_init : jM := (cX15_init, RX15, 3, (Option.none : Option FieldType), "<init>", none)
theorem oX15_init : jcode yX15_init mX15_init := q2967
theorem pX15_init : jpar yX15_init 2 := ⟨by decide +kernel, by decide +kernel, by decide +kernel⟩
theorem sp_Alt_init (l : Launch) (G : jG) (a : Nat) (x0 : Nat) (x1 : Nat) (h0 : x0 < 65536) : jS l G yX15_init mX15_init 3 [.ref a, .int (iI (x0 : Int)), .ref x1] [ow a 42 [.int (iI 0), .null]] (0) (jret (fun v9 Ψ => v9 = none ∧ Ψ = [ow a 42 [.int (iI (x0 : Int)), .ref x1]])) := by
  refine jS_of (plainFor_of_name (by decide)) rfl rfl rfl (Nat.le_of_ble_eq_true rfl) (fun X => ?_)
  show jT mX15_init l G _ _ _ X [ow a 42 [.int (iI 0), .null]] 0 [(0, .ref a), (1, .int (iI (x0 : Int))), (2, .ref x1)] [] _
  refine jlv_aload_n dX15_init_0 rfl 0 rfl ?_
  refine jr_callI [] (sp_Record_init l G a) (rest := []) rfl rfl rfl q2968 q1980 q108 oJ27_init pJ27_init (by decide) (by decide) (Nat.le_of_ble_eq_true rfl) [0] [] rfl trivial (Φr := [ow a 42 [.int (iI 0), .null]]) rfl (by first | omega | exact Nat.zero_le _) dX15_init_1 (fun v9 Ψ hq => ?_) (fun _ _ hq => hq.elim)
  obtain ⟨rfl, rfl⟩ := hq
  show jT mX15_init l G _ _ _ X [ow a 42 [.int (iI 0), .null]] 4 [(0, .ref a), (1, .int (iI (x0 : Int))), (2, .ref x1)] [] _
  refine jlv_aload_n dX15_init_4 rfl 0 rfl ?_
  refine jlv_iload_n dX15_init_5 rfl 1 rfl ?_
  refine jr_putF 0 rfl rfl 0 q2969 rfl rfl rfl rfl (jn_char (by omega)) (jn_cfits (by omega)) rfl dX15_init_6 (Φ' := [ow a 42 [.int (iI (x0 : Int)), .null]]) rfl ?_
  refine jlv_aload_n dX15_init_9 rfl 0 rfl ?_
  refine jlv_aload_n dX15_init_10 rfl 2 rfl ?_
  refine jr_putF 0 rfl rfl 1 q2970 rfl rfl rfl rfl rfl rfl rfl dX15_init_11 (Φ' := [ow a 42 [.int (iI (x0 : Int)), .ref x1]]) rfl ?_
  exact jr_vret dX15_init_14 rfl (Ψ := [ow a 42 [.int (iI (x0 : Int)), .ref x1]]) ⟨rfl, rfl⟩ (js_pickP [0] [] rfl trivial rfl)

abbrev mX20_init : jM := (cX20_init, RX20, 3, (Option.none : Option FieldType), "<init>", none)
theorem oX20_init : jcode yX20_init mX20_init := q3232
theorem pX20_init : jpar yX20_init 2 := ⟨by decide +kernel, by decide +kernel, by decide +kernel⟩
theorem sp_Con_init (l : Launch) (G : jG) (a : Nat) (x0 : Nat) (x1 : Nat) : jS l G yX20_init mX20_init 3 [.ref a, .int (iI (x0 : Int)), .ref x1] [ow a 47 [.int (iI 0), .null]] (0) (jret (fun v9 Ψ => v9 = none ∧ Ψ = [ow a 47 [.int (iI (x0 : Int)), .ref x1]])) := by
  refine jS_of (plainFor_of_name (by decide)) rfl rfl rfl (Nat.le_of_ble_eq_true rfl) (fun X => ?_)
  show jT mX20_init l G _ _ _ X [ow a 47 [.int (iI 0), .null]] 0 [(0, .ref a), (1, .int (iI (x0 : Int))), (2, .ref x1)] [] _
  refine jlv_aload_n dX20_init_0 rfl 0 rfl ?_
  refine jr_callI [] (sp_Record_init l G a) (rest := []) rfl rfl rfl q3233 q1980 q108 oJ27_init pJ27_init (by decide) (by decide) (Nat.le_of_ble_eq_true rfl) [0] [] rfl trivial (Φr := [ow a 47 [.int (iI 0), .null]]) rfl (by first | omega | exact Nat.zero_le _) dX20_init_1 (fun v9 Ψ hq => ?_) (fun _ _ hq => hq.elim)
  obtain ⟨rfl, rfl⟩ := hq
  show jT mX20_init l G _ _ _ X [ow a 47 [.int (iI 0), .null]] 4 [(0, .ref a), (1, .int (iI (x0 : Int))), (2, .ref x1)] [] _
  refine jlv_aload_n dX20_init_4 rfl 0 rfl ?_
  refine jlv_iload_n dX20_init_5 rfl 1 rfl ?_
  refine jr_putF 0 rfl rfl 0 q3234 rfl rfl rfl rfl rfl rfl rfl dX20_init_6 (Φ' := [ow a 47 [.int (iI (x0 : Int)), .null]]) rfl ?_
  refine jlv_aload_n dX20_init_9 rfl 0 rfl ?_
  refine jlv_aload_n dX20_init_10 rfl 2 rfl ?_
  refine jr_putF 0 rfl rfl 1 q3235 rfl rfl rfl rfl rfl rfl rfl dX20_init_11 (Φ' := [ow a 47 [.int (iI (x0 : Int)), .ref x1]]) rfl ?_
  exact jr_vret dX20_init_14 rfl (Ψ := [ow a 47 [.int (iI (x0 : Int)), .ref x1]]) ⟨rfl, rfl⟩ (js_pickP [0] [] rfl trivial rfl)

abbrev mX6_init : jM := (cX6_init, RX6, 4, (Option.none : Option FieldType), "<init>", none)
theorem oX6_init : jcode yX6_init mX6_init := q1978
theorem pX6_init : jpar yX6_init 3 := ⟨by decide +kernel, by decide +kernel, by decide +kernel⟩
theorem sp_Found_init (l : Launch) (G : jG) (a : Nat) (x0 : Nat) (x1 : Nat) (x2 : Nat) : jS l G yX6_init mX6_init 3 [.ref a, .ref x0, .int (iI (x1 : Int)), .ref x2] [ow a 33 [.null, .int (iI 0), .null]] (0) (jret (fun v9 Ψ => v9 = none ∧ Ψ = [ow a 33 [.ref x0, .int (iI (x1 : Int)), .ref x2]])) := by
  refine jS_of (plainFor_of_name (by decide)) rfl rfl rfl (Nat.le_of_ble_eq_true rfl) (fun X => ?_)
  show jT mX6_init l G _ _ _ X [ow a 33 [.null, .int (iI 0), .null]] 0 [(0, .ref a), (1, .ref x0), (2, .int (iI (x1 : Int))), (3, .ref x2)] [] _
  refine jlv_aload_n dX6_init_0 rfl 0 rfl ?_
  refine jr_callI [] (sp_Record_init l G a) (rest := []) rfl rfl rfl q1979 q1980 q108 oJ27_init pJ27_init (by decide) (by decide) (Nat.le_of_ble_eq_true rfl) [0] [] rfl trivial (Φr := [ow a 33 [.null, .int (iI 0), .null]]) rfl (by first | omega | exact Nat.zero_le _) dX6_init_1 (fun v9 Ψ hq => ?_) (fun _ _ hq => hq.elim)
  obtain ⟨rfl, rfl⟩ := hq
  show jT mX6_init l G _ _ _ X [ow a 33 [.null, .int (iI 0), .null]] 4 [(0, .ref a), (1, .ref x0), (2, .int (iI (x1 : Int))), (3, .ref x2)] [] _
  refine jlv_aload_n dX6_init_4 rfl 0 rfl ?_
  refine jlv_aload_n dX6_init_5 rfl 1 rfl ?_
  refine jr_putF 0 rfl rfl 0 q1983 rfl rfl rfl rfl rfl rfl rfl dX6_init_6 (Φ' := [ow a 33 [.ref x0, .int (iI 0), .null]]) rfl ?_
  refine jlv_aload_n dX6_init_9 rfl 0 rfl ?_
  refine jlv_iload_n dX6_init_10 rfl 2 rfl ?_
  refine jr_putF 0 rfl rfl 1 q1984 rfl rfl rfl rfl rfl rfl rfl dX6_init_11 (Φ' := [ow a 33 [.ref x0, .int (iI (x1 : Int)), .null]]) rfl ?_
  refine jlv_aload_n dX6_init_14 rfl 0 rfl ?_
  refine jlv_aload_n dX6_init_15 rfl 3 rfl ?_
  refine jr_putF 0 rfl rfl 2 q1985 rfl rfl rfl rfl rfl rfl rfl dX6_init_16 (Φ' := [ow a 33 [.ref x0, .int (iI (x1 : Int)), .ref x2]]) rfl ?_
  exact jr_vret dX6_init_19 rfl (Ψ := [ow a 33 [.ref x0, .int (iI (x1 : Int)), .ref x2]]) ⟨rfl, rfl⟩ (js_pickP [0] [] rfl trivial rfl)

abbrev mX7_init : jM := (cX7_init, RX7, 2, (Option.none : Option FieldType), "<init>", none)
theorem oX7_init : jcode yX7_init mX7_init := q2014
theorem pX7_init : jpar yX7_init 1 := ⟨by decide +kernel, by decide +kernel, by decide +kernel⟩
theorem sp_Miss_init (l : Launch) (G : jG) (a : Nat) (x0 : Nat) : jS l G yX7_init mX7_init 3 [.ref a, .ref x0] [ow a 34 [.null]] (0) (jret (fun v9 Ψ => v9 = none ∧ Ψ = [ow a 34 [.ref x0]])) := by
  refine jS_of (plainFor_of_name (by decide)) rfl rfl rfl (Nat.le_of_ble_eq_true rfl) (fun X => ?_)
  show jT mX7_init l G _ _ _ X [ow a 34 [.null]] 0 [(0, .ref a), (1, .ref x0)] [] _
  refine jlv_aload_n dX7_init_0 rfl 0 rfl ?_
  refine jr_callI [] (sp_Record_init l G a) (rest := []) rfl rfl rfl q2015 q1980 q108 oJ27_init pJ27_init (by decide) (by decide) (Nat.le_of_ble_eq_true rfl) [0] [] rfl trivial (Φr := [ow a 34 [.null]]) rfl (by first | omega | exact Nat.zero_le _) dX7_init_1 (fun v9 Ψ hq => ?_) (fun _ _ hq => hq.elim)
  obtain ⟨rfl, rfl⟩ := hq
  show jT mX7_init l G _ _ _ X [ow a 34 [.null]] 4 [(0, .ref a), (1, .ref x0)] [] _
  refine jlv_aload_n dX7_init_4 rfl 0 rfl ?_
  refine jlv_aload_n dX7_init_5 rfl 1 rfl ?_
  refine jr_putF 0 rfl rfl 0 q2016 rfl rfl rfl rfl rfl rfl rfl dX7_init_6 (Φ' := [ow a 34 [.ref x0]]) rfl ?_
  exact jr_vret dX7_init_9 rfl (Ψ := [ow a 34 [.ref x0]]) ⟨rfl, rfl⟩ (js_pickP [0] [] rfl trivial rfl)

abbrev mX5_keys : jM := (cX5_keys, RX5, 1, (Option.some FieldType.int), "keys", none)
theorem oX5_keys : jcode yX5_keys mX5_keys := q1891
theorem pX5_keys : jpar yX5_keys 0 := ⟨by decide +kernel, by decide +kernel, by decide +kernel⟩
theorem sp_Stroke_keys (l : Launch) (G : jG) (a : Nat) (k : Nat) (t : Nat) : jS l G yX5_keys mX5_keys 1 [.ref a] [jStroke (a, k, t)] (0) (jret (fun v9 Ψ => v9 = some (.int (iI (k : Int))) ∧ Ψ = [])) := by
  refine jS_of (plainFor_of_name (by decide)) rfl rfl rfl (Nat.le_of_ble_eq_true rfl) (fun X => ?_)
  show jT mX5_keys l G _ _ _ X [jStroke (a, k, t)] 0 [(0, .ref a)] [] _
  refine jlv_aload_n dX5_keys_0 rfl 0 rfl ?_
  refine jt_dup 0 rfl jpers_jStroke ?_
  refine jt_open ?_
  rintro ⟨⟩ ⟨hb_196, hb_1962⟩
  try dsimp only at hb_196 hb_1962
  show jT mX5_keys l G _ _ _ X [im a 32 [.int (iI (k : Int)), .int (iI (t : Int))], jStroke (a, k, t)] 1 [(0, .ref a)] [.ref a] _
  refine jr_get 0 rfl rfl 0 q2739 (Or.inl rfl) rfl dX5_keys_1 ?_
  exact jr_zret dX5_keys_4 rfl rfl (Ψ := []) ⟨rfl, rfl⟩ (js_pickP [] [] rfl trivial rfl)

abbrev mX5_tick : jM := (cX5_tick, RX5, 1, (Option.some FieldType.int), "tick", none)
theorem oX5_tick : jcode yX5_tick mX5_tick := q2119
theorem pX5_tick : jpar yX5_tick 0 := ⟨by decide +kernel, by decide +kernel, by decide +kernel⟩
theorem sp_Stroke_tick (l : Launch) (G : jG) (a : Nat) (k : Nat) (t : Nat) : jS l G yX5_tick mX5_tick 1 [.ref a] [jStroke (a, k, t)] (0) (jret (fun v9 Ψ => v9 = some (.int (iI (t : Int))) ∧ Ψ = [])) := by
  refine jS_of (plainFor_of_name (by decide)) rfl rfl rfl (Nat.le_of_ble_eq_true rfl) (fun X => ?_)
  show jT mX5_tick l G _ _ _ X [jStroke (a, k, t)] 0 [(0, .ref a)] [] _
  refine jlv_aload_n dX5_tick_0 rfl 0 rfl ?_
  refine jt_dup 0 rfl jpers_jStroke ?_
  refine jt_open ?_
  rintro ⟨⟩ ⟨hb_198, hb_1982⟩
  try dsimp only at hb_198 hb_1982
  show jT mX5_tick l G _ _ _ X [im a 32 [.int (iI (k : Int)), .int (iI (t : Int))], jStroke (a, k, t)] 1 [(0, .ref a)] [.ref a] _
  refine jr_get 0 rfl rfl 1 q2740 (Or.inl rfl) rfl dX5_tick_1 ?_
  exact jr_zret dX5_tick_4 rfl rfl (Ψ := []) ⟨rfl, rfl⟩ (js_pickP [] [] rfl trivial rfl)

abbrev mX10_sign : jM := (cX10_sign, RX10, 1, (Option.some FieldType.char), "sign", none)
theorem oX10_sign : jcode yX10_sign mX10_sign := q2187
theorem pX10_sign : jpar yX10_sign 0 := ⟨by decide +kernel, by decide +kernel, by decide +kernel⟩
theorem sp_Sign_sign (l : Launch) (G : jG) (a : Nat) (c : Nat) (t : Nat) (w : Nat) : jS l G yX10_sign mX10_sign 1 [.ref a] [jSign (a, c, t, w)] (0) (jret (fun v9 Ψ => v9 = some (.int (iI (c : Int))) ∧ Ψ = [])) := by
  refine jS_of (plainFor_of_name (by decide)) rfl rfl rfl (Nat.le_of_ble_eq_true rfl) (fun X => ?_)
  show jT mX10_sign l G _ _ _ X [jSign (a, c, t, w)] 0 [(0, .ref a)] [] _
  refine jlv_aload_n dX10_sign_0 rfl 0 rfl ?_
  refine jt_dup 0 rfl jpers_jSign ?_
  refine jt_open ?_
  rintro ⟨⟩ ⟨hb_200, hb_2002, hb_2003⟩
  try dsimp only at hb_200 hb_2002 hb_2003
  show jT mX10_sign l G _ _ _ X [im a 37 [.int (iI (c : Int)), .int (iI (t : Int)), .int (iI (w : Int))], jSign (a, c, t, w)] 1 [(0, .ref a)] [.ref a] _
  refine jr_get 0 rfl rfl 0 q2197 (Or.inl rfl) rfl dX10_sign_1 ?_
  exact jr_zret dX10_sign_4 rfl (jn_char (by omega)) (Ψ := []) ⟨rfl, rfl⟩ (js_pickP [] [] rfl trivial rfl)

abbrev mX10_time : jM := (cX10_time, RX10, 1, (Option.some FieldType.int), "time", none)
theorem oX10_time : jcode yX10_time mX10_time := q2648
theorem pX10_time : jpar yX10_time 0 := ⟨by decide +kernel, by decide +kernel, by decide +kernel⟩
theorem sp_Sign_time (l : Launch) (G : jG) (a : Nat) (c : Nat) (t : Nat) (w : Nat) : jS l G yX10_time mX10_time 1 [.ref a] [jSign (a, c, t, w)] (0) (jret (fun v9 Ψ => v9 = some (.int (iI (t : Int))) ∧ Ψ = [])) := by
  refine jS_of (plainFor_of_name (by decide)) rfl rfl rfl (Nat.le_of_ble_eq_true rfl) (fun X => ?_)
  show jT mX10_time l G _ _ _ X [jSign (a, c, t, w)] 0 [(0, .ref a)] [] _
  refine jlv_aload_n dX10_time_0 rfl 0 rfl ?_
  refine jt_dup 0 rfl jpers_jSign ?_
  refine jt_open ?_
  rintro ⟨⟩ ⟨hb_202, hb_2022, hb_2023⟩
  try dsimp only at hb_202 hb_2022 hb_2023
  show jT mX10_time l G _ _ _ X [im a 37 [.int (iI (c : Int)), .int (iI (t : Int)), .int (iI (w : Int))], jSign (a, c, t, w)] 1 [(0, .ref a)] [.ref a] _
  refine jr_get 0 rfl rfl 1 q2198 (Or.inl rfl) rfl dX10_time_1 ?_
  exact jr_zret dX10_time_4 rfl rfl (Ψ := []) ⟨rfl, rfl⟩ (js_pickP [] [] rfl trivial rfl)

abbrev mX10_by : jM := (cX10_by, RX10, 1, (Option.some FieldType.int), "by", none)
theorem oX10_by : jcode yX10_by mX10_by := q3124
theorem pX10_by : jpar yX10_by 0 := ⟨by decide +kernel, by decide +kernel, by decide +kernel⟩
theorem sp_Sign_by (l : Launch) (G : jG) (a : Nat) (c : Nat) (t : Nat) (w : Nat) : jS l G yX10_by mX10_by 1 [.ref a] [jSign (a, c, t, w)] (0) (jret (fun v9 Ψ => v9 = some (.int (iI (w : Int))) ∧ Ψ = [])) := by
  refine jS_of (plainFor_of_name (by decide)) rfl rfl rfl (Nat.le_of_ble_eq_true rfl) (fun X => ?_)
  show jT mX10_by l G _ _ _ X [jSign (a, c, t, w)] 0 [(0, .ref a)] [] _
  refine jlv_aload_n dX10_by_0 rfl 0 rfl ?_
  refine jt_dup 0 rfl jpers_jSign ?_
  refine jt_open ?_
  rintro ⟨⟩ ⟨hb_204, hb_2042, hb_2043⟩
  try dsimp only at hb_204 hb_2042 hb_2043
  show jT mX10_by l G _ _ _ X [im a 37 [.int (iI (c : Int)), .int (iI (t : Int)), .int (iI (w : Int))], jSign (a, c, t, w)] 1 [(0, .ref a)] [.ref a] _
  refine jr_get 0 rfl rfl 2 q2199 (Or.inl rfl) rfl dX10_by_1 ?_
  exact jr_zret dX10_by_4 rfl rfl (Ψ := []) ⟨rfl, rfl⟩ (js_pickP [] [] rfl trivial rfl)

abbrev mX15_letter : jM := (cX15_letter, RX15, 1, (Option.some FieldType.char), "letter", none)
theorem oX15_letter : jcode yX15_letter mX15_letter := q2094
theorem pX15_letter : jpar yX15_letter 0 := ⟨by decide +kernel, by decide +kernel, by decide +kernel⟩
theorem sp_Alt_letter (l : Launch) (G : jG) (a : Nat) (c : Nat) (cs : List Nat) : jS l G yX15_letter mX15_letter 1 [.ref a] [jAlt (a, c, cs)] (0) (jret (fun v9 Ψ => v9 = some (.int (iI (c : Int))) ∧ Ψ = [])) := by
  refine jS_of (plainFor_of_name (by decide)) rfl rfl rfl (Nat.le_of_ble_eq_true rfl) (fun X => ?_)
  show jT mX15_letter l G _ _ _ X [jAlt (a, c, cs)] 0 [(0, .ref a)] [] _
  refine jlv_aload_n dX15_letter_0 rfl 0 rfl ?_
  refine jt_dup 0 rfl jpers_jAlt ?_
  refine jt_open ?_
  rintro y_207 hb_206
  try dsimp only at hb_206
  show jT mX15_letter l G _ _ _ X [im a 42 [.int (iI (c : Int)), .ref y_207], jLs y_207 cs, jAlt (a, c, cs)] 1 [(0, .ref a)] [.ref a] _
  refine jr_get 0 rfl rfl 0 q2969 (Or.inl rfl) rfl dX15_letter_1 ?_
  exact jr_zret dX15_letter_4 rfl (jn_char (by omega)) (Ψ := []) ⟨rfl, rfl⟩ (js_pickP [] [] rfl trivial rfl)

abbrev mX20_cell : jM := (cX20_cell, RX20, 1, (Option.some FieldType.int), "cell", none)
theorem oX20_cell : jcode yX20_cell mX20_cell := q2447
theorem pX20_cell : jpar yX20_cell 0 := ⟨by decide +kernel, by decide +kernel, by decide +kernel⟩
theorem sp_Con_cell (l : Launch) (G : jG) (a : Nat) (c : Nat) (cs : List Nat) : jS l G yX20_cell mX20_cell 1 [.ref a] [jCon (a, c, cs)] (0) (jret (fun v9 Ψ => v9 = some (.int (iI (c : Int))) ∧ Ψ = [])) := by
  refine jS_of (plainFor_of_name (by decide)) rfl rfl rfl (Nat.le_of_ble_eq_true rfl) (fun X => ?_)
  show jT mX20_cell l G _ _ _ X [jCon (a, c, cs)] 0 [(0, .ref a)] [] _
  refine jlv_aload_n dX20_cell_0 rfl 0 rfl ?_
  refine jt_dup 0 rfl jpers_jCon ?_
  refine jt_open ?_
  rintro y_209 hb_208
  try dsimp only at hb_208
  show jT mX20_cell l G _ _ _ X [im a 47 [.int (iI (c : Int)), .ref y_209], jLs y_209 cs, jCon (a, c, cs)] 1 [(0, .ref a)] [.ref a] _
  refine jr_get 0 rfl rfl 0 q3234 (Or.inl rfl) rfl dX20_cell_1 ?_
  exact jr_zret dX20_cell_4 rfl rfl (Ψ := []) ⟨rfl, rfl⟩ (js_pickP [] [] rfl trivial rfl)

abbrev mX15_content : jM := (cX15_content, RX15, 1, (Option.some (FieldType.object "java/lang/String")), "content", none)
theorem oX15_content : jcode yX15_content mX15_content := q2111
theorem pX15_content : jpar yX15_content 0 := ⟨by decide +kernel, by decide +kernel, by decide +kernel⟩
theorem sp_Alt_content (l : Launch) (G : jG) (a : Nat) (c : Nat) (cs : List Nat) : jS l G yX15_content mX15_content 1 [.ref a] [jAlt (a, c, cs)] (0) (jret (fun v9 Ψ => ∃ v : Nat, v9 = some (.ref v) ∧ Ψ = [jLs v cs])) := by
  refine jS_of (plainFor_of_name (by decide)) rfl rfl rfl (Nat.le_of_ble_eq_true rfl) (fun X => ?_)
  show jT mX15_content l G _ _ _ X [jAlt (a, c, cs)] 0 [(0, .ref a)] [] _
  refine jlv_aload_n dX15_content_0 rfl 0 rfl ?_
  refine jt_dup 0 rfl jpers_jAlt ?_
  refine jt_open ?_
  rintro y_211 hb_210
  try dsimp only at hb_210
  show jT mX15_content l G _ _ _ X [im a 42 [.int (iI (c : Int)), .ref y_211], jLs y_211 cs, jAlt (a, c, cs)] 1 [(0, .ref a)] [.ref a] _
  refine jr_get 0 rfl rfl 1 q2970 (Or.inl rfl) rfl dX15_content_1 ?_
  exact jr_aret dX15_content_4 rfl (Or.inl ⟨_, rfl⟩) (Or.inr ⟨_, rfl⟩) (Ψ := [jLs y_211 cs]) ⟨y_211, rfl, rfl⟩ (js_pickP [1] [] rfl trivial rfl)

abbrev mX20_letters : jM := (cX20_letters, RX20, 1, (Option.some (FieldType.object "java/lang/String")), "letters", none)
theorem oX20_letters : jcode yX20_letters mX20_letters := q2436
theorem pX20_letters : jpar yX20_letters 0 := ⟨by decide +kernel, by decide +kernel, by decide +kernel⟩
theorem sp_Con_letters (l : Launch) (G : jG) (a : Nat) (c : Nat) (cs : List Nat) : jS l G yX20_letters mX20_letters 1 [.ref a] [jCon (a, c, cs)] (0) (jret (fun v9 Ψ => ∃ v : Nat, v9 = some (.ref v) ∧ Ψ = [jLs v cs])) := by
  refine jS_of (plainFor_of_name (by decide)) rfl rfl rfl (Nat.le_of_ble_eq_true rfl) (fun X => ?_)
  show jT mX20_letters l G _ _ _ X [jCon (a, c, cs)] 0 [(0, .ref a)] [] _
  refine jlv_aload_n dX20_letters_0 rfl 0 rfl ?_
  refine jt_dup 0 rfl jpers_jCon ?_
  refine jt_open ?_
  rintro y_213 hb_212
  try dsimp only at hb_212
  show jT mX20_letters l G _ _ _ X [im a 47 [.int (iI (c : Int)), .ref y_213], jLs y_213 cs, jCon (a, c, cs)] 1 [(0, .ref a)] [.ref a] _
  refine jr_get 0 rfl rfl 1 q3235 (Or.inl rfl) rfl dX20_letters_1 ?_
  exact jr_aret dX20_letters_4 rfl (Or.inl ⟨_, rfl⟩) (Or.inr ⟨_, rfl⟩) (Ψ := [jLs y_213 cs]) ⟨y_213, rfl, rfl⟩ (js_pickP [1] [] rfl trivial rfl)

