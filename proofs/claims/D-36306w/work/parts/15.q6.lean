set_option maxRecDepth 100000
/-- the immutable lists of one, of two, of more -/
def IL1 (G : jG) (a x : Nat) : jP := jbun (fun ge : Nat => jSV G jiEMPTY = .ref ge) (fun ge => [im a 22 [.ref x, .ref ge]])
def IL2 (G : jG) (a x y : Nat) : jP := jbun (fun ge : Nat => jSV G jiEMPTY = .ref ge ∧ y ≠ ge) (fun _ => [im a 22 [.ref x, .ref y]])
def ILN (a : Nat) (vs : List Nat) : jP := jbun (fun _ : Nat => 3 ≤ vs.length ∧ vs.length ≤ 1000) (fun arr => [im a 23 [.ref arr, .int (iI 0)], ia arr 5 (vs.map Value.ref)])
theorem jpers_IL1 {G : jG} {a x : Nat} : jpers (IL1 G a x) := jpers_bun fun v _ P hP => by rw [List.mem_singleton.mp hP]; exact jpers_A
theorem jpers_IL2 {G : jG} {a x y : Nat} : jpers (IL2 G a x y) := jpers_bun fun v _ P hP => by rw [List.mem_singleton.mp hP]; exact jpers_A
theorem jpers_ILN {a : Nat} {vs : List Nat} : jpers (ILN a vs) := jpers_bun fun v _ P hP => by
  rcases List.mem_cons.mp hP with e | e
  · rw [e]; exact jpers_A
  · rw [List.mem_singleton.mp e]; exact jpers_A
theorem IL1_has {G : jG} {a x : Nat} : jhas (IL1 G a x) a 22 := jhas_bun fun x _ => ⟨0, true, _, rfl⟩
theorem IL2_has {G : jG} {a x y : Nat} : jhas (IL2 G a x y) a 22 := jhas_bun fun x _ => ⟨0, true, _, rfl⟩
theorem ILN_has {a : Nat} {vs : List Nat} : jhas (ILN a vs) a 23 := jhas_bun fun x _ => ⟨0, true, _, rfl⟩
abbrev mJ29_init : jM := (cJ29_init, RJ29, 1, (Option.none : Option FieldType), "<init>", none)
theorem oJ29_init : jcode yJ29_init mJ29_init := q1134
theorem pJ29_init : jpar yJ29_init 0 := ⟨by decide +kernel, by decide +kernel, by decide +kernel⟩
theorem sp_ImmColl_init (l : Launch) (G : jG) (a : Nat) : jS l G yJ29_init mJ29_init 2 [.ref a] [] (0) (jret (fun v9 Ψ => v9 = none ∧ Ψ = [])) := by
  refine jS_of (plainFor_of_name (by decide)) rfl rfl rfl (Nat.le_of_ble_eq_true rfl) (fun X => ?_)
  show jT mJ29_init l G _ _ _ X [] 0 [(0, .ref a)] [] _
  refine jlv_aload_n dJ29_init_0 rfl 0 rfl ?_
  refine jr_callI [] (sp_AbsColl_init l G a) (rest := []) rfl rfl rfl q1135 q172 q76 oJ0_init pJ0_init (by decide) (by decide) (Nat.le_of_ble_eq_true rfl) [] [] rfl trivial (Φr := []) rfl (by first | omega | exact Nat.zero_le _) dJ29_init_1 (fun v9 Ψ hq => ?_) (fun _ _ hq => hq.elim)
  obtain ⟨rfl, rfl⟩ := hq
  show jT mJ29_init l G _ _ _ X [] 4 [(0, .ref a)] [] _
  exact jr_vret dJ29_init_4 rfl (Ψ := []) ⟨rfl, rfl⟩ (js_pickP [] [] rfl trivial rfl)

abbrev mJ30_init : jM := (cJ30_init, RJ30, 1, (Option.none : Option FieldType), "<init>", none)
theorem oJ30_init : jcode yJ30_init mJ30_init := q1131
theorem pJ30_init : jpar yJ30_init 0 := ⟨by decide +kernel, by decide +kernel, by decide +kernel⟩
theorem sp_ImmList_init (l : Launch) (G : jG) (a : Nat) : jS l G yJ30_init mJ30_init 3 [.ref a] [] (0) (jret (fun v9 Ψ => v9 = none ∧ Ψ = [])) := by
  refine jS_of (plainFor_of_name (by decide)) rfl rfl rfl (Nat.le_of_ble_eq_true rfl) (fun X => ?_)
  show jT mJ30_init l G _ _ _ X [] 0 [(0, .ref a)] [] _
  refine jlv_aload_n dJ30_init_0 rfl 0 rfl ?_
  refine jr_callI [] (sp_ImmColl_init l G a) (rest := []) rfl rfl rfl q1132 q1133 q111 oJ29_init pJ29_init (by decide) (by decide) (Nat.le_of_ble_eq_true rfl) [] [] rfl trivial (Φr := []) rfl (by first | omega | exact Nat.zero_le _) dJ30_init_1 (fun v9 Ψ hq => ?_) (fun _ _ hq => hq.elim)
  obtain ⟨rfl, rfl⟩ := hq
  show jT mJ30_init l G _ _ _ X [] 4 [(0, .ref a)] [] _
  exact jr_vret dJ30_init_4 rfl (Ψ := []) ⟨rfl, rfl⟩ (js_pickP [] [] rfl trivial rfl)

abbrev mJ34_requireNonNull : jM := (cJ34_requireNonNull, RJ34, 1, (Option.some (FieldType.object "java/lang/Object")), "requireNonNull", none)
theorem oJ34_requireNonNull : jcode yJ34_requireNonNull mJ34_requireNonNull := q1832
theorem pJ34_requireNonNull : jpar yJ34_requireNonNull 1 := ⟨by decide +kernel, by decide +kernel, by decide +kernel⟩
theorem sp_requireNonNull (l : Launch) (G : jG) (a : Nat) : jS l G yJ34_requireNonNull mJ34_requireNonNull 1 [.ref a] [] (0) (jret (fun v9 Ψ => v9 = some (.ref a) ∧ Ψ = [])) := by
  refine jS_of (plainFor_of_name (by decide)) rfl rfl rfl (Nat.le_of_ble_eq_true rfl) (fun X => ?_)
  show jT mJ34_requireNonNull l G _ _ _ X [] 0 [(0, .ref a)] [] _
  refine jlv_aload_n dJ34_requireNonNull_0 rfl 0 rfl ?_
  refine jlv_ifnonnull (tgt := 12) dJ34_requireNonNull_1 (by decide) ?_
  refine jlv_aload_n dJ34_requireNonNull_12 rfl 0 rfl ?_
  exact jr_aret dJ34_requireNonNull_13 rfl (Or.inl ⟨_, rfl⟩) (Or.inr ⟨_, rfl⟩) (Ψ := []) ⟨rfl, rfl⟩ (js_pickP [] [] rfl trivial rfl)

abbrev mJ46_init : jM := (cJ46_init, RJ46, 2, (Option.none : Option FieldType), "<init>", none)
theorem oJ46_init : jcode yJ46_init mJ46_init := q1828
theorem pJ46_init : jpar yJ46_init 1 := ⟨by decide +kernel, by decide +kernel, by decide +kernel⟩
theorem sp_L12_init1 (l : Launch) (G : jG) (a : Nat) (x : Nat) : jS l G yJ46_init mJ46_init 4 [.ref a, .ref x] [ow a 22 [.null, .null]] (0) (jret (fun v9 Ψ => v9 = none ∧ Ψ = [ow a 22 [.ref x, jSV G 8]])) := by
  refine jS_of (plainFor_of_name (by decide)) rfl rfl rfl (Nat.le_of_ble_eq_true rfl) (fun X => ?_)
  show jT mJ46_init l G _ _ _ X [ow a 22 [.null, .null]] 0 [(0, .ref a), (1, .ref x)] [] _
  refine jr_g0 (fun hg0 => ?_)
  obtain ⟨gi, ⟨gea, hgea, hgea2⟩, ⟨gem, hgem, hgem2⟩, ⟨gpr, hgpr, hgpr2⟩, ⟨gic, gicad, hgic, hgic2, hgic3⟩, ⟨gcc, gccad, hgcc, hgcc2, hgcc3⟩, grf, gks⟩ := hg0
  refine jlv_aload_n dJ46_init_0 rfl 0 rfl ?_
  refine jr_callI [] (sp_ImmList_init l G a) (rest := []) rfl rfl rfl q1829 q1130 q112 oJ30_init pJ30_init (by decide) (by decide) (Nat.le_of_ble_eq_true rfl) [0] [] rfl trivial (Φr := [ow a 22 [.null, .null]]) rfl (by first | omega | exact Nat.zero_le _) dJ46_init_1 (fun v9 Ψ hq => ?_) (fun _ _ hq => hq.elim)
  obtain ⟨rfl, rfl⟩ := hq
  show jT mJ46_init l G _ _ _ X [ow a 22 [.null, .null]] 4 [(0, .ref a), (1, .ref x)] [] _
  refine jlv_aload_n dJ46_init_4 rfl 0 rfl ?_
  refine jlv_aload_n dJ46_init_5 rfl 1 rfl ?_
  refine jr_callS [.ref x] (sp_requireNonNull l G x) (rest := [.ref a]) q1830 q1831 q116 oJ34_requireNonNull pJ34_requireNonNull (by decide) (by decide) (Nat.le_of_ble_eq_true rfl) [0] [] rfl trivial (Φr := [ow a 22 [.null, .null]]) rfl (by first | omega | exact Nat.zero_le _) dJ46_init_6 (fun v9 Ψ hq => ?_) (fun _ _ hq => hq.elim)
  obtain ⟨rfl, rfl⟩ := hq
  show jT mJ46_init l G _ _ _ X [ow a 22 [.null, .null]] 9 [(0, .ref a), (1, .ref x)] [.ref x, .ref a] _
  refine jr_putF 0 rfl rfl 0 q1833 rfl rfl rfl rfl rfl rfl rfl dJ46_init_9 (Φ' := [ow a 22 [.ref x, .null]]) rfl ?_
  refine jlv_aload_n dJ46_init_12 rfl 0 rfl ?_
  refine jr_getsN 8 rfl (List.mem_of_getElem? (i := 6) rfl) hgem dJ46_init_13 ?_
  refine jr_putF 0 rfl rfl 1 q1834 rfl rfl rfl rfl rfl rfl rfl dJ46_init_16 (Φ' := [ow a 22 [.ref x, .ref gem]]) rfl ?_
  refine jt_same 0 (P := ow a 22 [.ref x, .ref gem]) (P' := ow a 22 [.ref x, jSV G 8]) rfl (by rw [show jSV G 8 = .ref gem from hgem]) (Φ' := [ow a 22 [.ref x, jSV G 8]]) rfl ?_
  exact jr_vret dJ46_init_19 rfl (Ψ := [ow a 22 [.ref x, jSV G 8]]) ⟨rfl, rfl⟩ (js_pickP [0] [] rfl trivial rfl)

abbrev mJ46_init_2 : jM := (cJ46_init_2, RJ46, 3, (Option.none : Option FieldType), "<init>", none)
theorem oJ46_init_2 : jcode yJ46_init_2 mJ46_init_2 := q1842
theorem pJ46_init_2 : jpar yJ46_init_2 2 := ⟨by decide +kernel, by decide +kernel, by decide +kernel⟩
theorem sp_L12_init2 (l : Launch) (G : jG) (a : Nat) (x : Nat) (y : Nat) : jS l G yJ46_init_2 mJ46_init_2 4 [.ref a, .ref x, .ref y] [ow a 22 [.null, .null]] (0) (jret (fun v9 Ψ => v9 = none ∧ Ψ = [ow a 22 [.ref x, .ref y]])) := by
  refine jS_of (plainFor_of_name (by decide)) rfl rfl rfl (Nat.le_of_ble_eq_true rfl) (fun X => ?_)
  show jT mJ46_init_2 l G _ _ _ X [ow a 22 [.null, .null]] 0 [(0, .ref a), (1, .ref x), (2, .ref y)] [] _
  refine jlv_aload_n dJ46_init_2_0 rfl 0 rfl ?_
  refine jr_callI [] (sp_ImmList_init l G a) (rest := []) rfl rfl rfl q1829 q1130 q112 oJ30_init pJ30_init (by decide) (by decide) (Nat.le_of_ble_eq_true rfl) [0] [] rfl trivial (Φr := [ow a 22 [.null, .null]]) rfl (by first | omega | exact Nat.zero_le _) dJ46_init_2_1 (fun v9 Ψ hq => ?_) (fun _ _ hq => hq.elim)
  obtain ⟨rfl, rfl⟩ := hq
  show jT mJ46_init_2 l G _ _ _ X [ow a 22 [.null, .null]] 4 [(0, .ref a), (1, .ref x), (2, .ref y)] [] _
  refine jlv_aload_n dJ46_init_2_4 rfl 0 rfl ?_
  refine jlv_aload_n dJ46_init_2_5 rfl 1 rfl ?_
  refine jr_callS [.ref x] (sp_requireNonNull l G x) (rest := [.ref a]) q1830 q1831 q116 oJ34_requireNonNull pJ34_requireNonNull (by decide) (by decide) (Nat.le_of_ble_eq_true rfl) [0] [] rfl trivial (Φr := [ow a 22 [.null, .null]]) rfl (by first | omega | exact Nat.zero_le _) dJ46_init_2_6 (fun v9 Ψ hq => ?_) (fun _ _ hq => hq.elim)
  obtain ⟨rfl, rfl⟩ := hq
  show jT mJ46_init_2 l G _ _ _ X [ow a 22 [.null, .null]] 9 [(0, .ref a), (1, .ref x), (2, .ref y)] [.ref x, .ref a] _
  refine jr_putF 0 rfl rfl 0 q1833 rfl rfl rfl rfl rfl rfl rfl dJ46_init_2_9 (Φ' := [ow a 22 [.ref x, .null]]) rfl ?_
  refine jlv_aload_n dJ46_init_2_12 rfl 0 rfl ?_
  refine jlv_aload_n dJ46_init_2_13 rfl 2 rfl ?_
  refine jr_callS [.ref y] (sp_requireNonNull l G y) (rest := [.ref a]) q1830 q1831 q116 oJ34_requireNonNull pJ34_requireNonNull (by decide) (by decide) (Nat.le_of_ble_eq_true rfl) [0] [] rfl trivial (Φr := [ow a 22 [.ref x, .null]]) rfl (by first | omega | exact Nat.zero_le _) dJ46_init_2_14 (fun v9 Ψ hq => ?_) (fun _ _ hq => hq.elim)
  obtain ⟨rfl, rfl⟩ := hq
  show jT mJ46_init_2 l G _ _ _ X [ow a 22 [.ref x, .null]] 17 [(0, .ref a), (1, .ref x), (2, .ref y)] [.ref y, .ref a] _
  refine jr_putF 0 rfl rfl 1 q1834 rfl rfl rfl rfl rfl rfl rfl dJ46_init_2_17 (Φ' := [ow a 22 [.ref x, .ref y]]) rfl ?_
  exact jr_vret dJ46_init_2_20 rfl (Ψ := [ow a 22 [.ref x, .ref y]]) ⟨rfl, rfl⟩ (js_pickP [0] [] rfl trivial rfl)

abbrev mJ47_init : jM := (cJ47_init, RJ47, 3, (Option.none : Option FieldType), "<init>", none)
theorem oJ47_init : jcode yJ47_init mJ47_init := q1851
theorem pJ47_init : jpar yJ47_init 2 := ⟨by decide +kernel, by decide +kernel, by decide +kernel⟩
theorem sp_LN_init (l : Launch) (G : jG) (a : Nat) (x : Nat) : jS l G yJ47_init mJ47_init 4 [.ref a, .ref x, .int (iI 0)] [ow a 23 [.null, .int (iI 0)]] (0) (jret (fun v9 Ψ => v9 = none ∧ Ψ = [ow a 23 [.ref x, .int (iI 0)]])) := by
  refine jS_of (plainFor_of_name (by decide)) rfl rfl rfl (Nat.le_of_ble_eq_true rfl) (fun X => ?_)
  show jT mJ47_init l G _ _ _ X [ow a 23 [.null, .int (iI 0)]] 0 [(0, .ref a), (1, .ref x), (2, .int (iI 0))] [] _
  refine jlv_aload_n dJ47_init_0 rfl 0 rfl ?_
  refine jr_callI [] (sp_ImmList_init l G a) (rest := []) rfl rfl rfl q1852 q1130 q112 oJ30_init pJ30_init (by decide) (by decide) (Nat.le_of_ble_eq_true rfl) [0] [] rfl trivial (Φr := [ow a 23 [.null, .int (iI 0)]]) rfl (by first | omega | exact Nat.zero_le _) dJ47_init_1 (fun v9 Ψ hq => ?_) (fun _ _ hq => hq.elim)
  obtain ⟨rfl, rfl⟩ := hq
  show jT mJ47_init l G _ _ _ X [ow a 23 [.null, .int (iI 0)]] 4 [(0, .ref a), (1, .ref x), (2, .int (iI 0))] [] _
  refine jlv_aload_n dJ47_init_4 rfl 0 rfl ?_
  refine jlv_aload_n dJ47_init_5 rfl 1 rfl ?_
  refine jr_putF 0 rfl rfl 0 q1853 rfl rfl rfl rfl rfl rfl rfl dJ47_init_6 (Φ' := [ow a 23 [.ref x, .int (iI 0)]]) rfl ?_
  refine jlv_aload_n dJ47_init_9 rfl 0 rfl ?_
  refine jlv_iload_n dJ47_init_10 rfl 2 rfl ?_
  refine jr_putF 0 rfl rfl 1 q1854 rfl rfl rfl rfl rfl rfl rfl dJ47_init_11 (Φ' := [ow a 23 [.ref x, .int (iI 0)]]) rfl ?_
  exact jr_vret dJ47_init_14 rfl (Ψ := [ow a 23 [.ref x, .int (iI 0)]]) ⟨rfl, rfl⟩ (js_pickP [0] [] rfl trivial rfl)

abbrev mJ46_size : jM := (cJ46_size, RJ46, 1, (Option.some FieldType.int), "size", none)
theorem oJ46_size : jcode yJ46_size mJ46_size := q1017
theorem pJ46_size : jpar yJ46_size 0 := ⟨by decide +kernel, by decide +kernel, by decide +kernel⟩
theorem sp_L12_size1 (l : Launch) (G : jG) (a : Nat) (x : Nat) : jS l G yJ46_size mJ46_size 1 [.ref a] [IL1 G a x] (0) (jret (fun v9 Ψ => v9 = some (.int (iI 1)) ∧ Ψ = [])) := by
  refine jS_of (plainFor_of_name (by decide)) rfl rfl rfl (Nat.le_of_ble_eq_true rfl) (fun X => ?_)
  show jT mJ46_size l G _ _ _ X [IL1 G a x] 0 [(0, .ref a)] [] _
  refine jt_dup 0 rfl jpers_IL1 ?_
  refine jt_open ?_
  rintro ge hge
  try dsimp only at hge
  show jT mJ46_size l G _ _ _ X [im a 22 [.ref x, .ref ge], IL1 G a x] 0 [(0, .ref a)] [] _
  have hge2 : jSV G 8 = .ref ge := hge
  refine jlv_aload_n dJ46_size_0 rfl 0 rfl ?_
  refine jr_get 0 rfl rfl 1 q1834 (Or.inl rfl) rfl dJ46_size_1 ?_
  refine jr_getsN 8 rfl (List.mem_of_getElem? (i := 6) rfl) rfl dJ46_size_4 ?_
  refine jt_eq (st' := [.ref ge, .ref ge]) (lv' := [(0, .ref a)]) (by rw [hge2]) rfl ?_
  refine jlv_acmp_eq (rx := (some ge)) (ry := (some ge)) (tgt := 14) dJ46_size_7 (by decide) (fun h_159 => ?_) (fun h_159 => absurd h_159 (fun q => q rfl))
  refine jlv_iconst (v := iI 1) dJ46_size_14 rfl ?_
  exact jr_zret dJ46_size_15 rfl rfl (Ψ := []) ⟨rfl, rfl⟩ (js_pickP [] [] rfl trivial rfl)

theorem sp_L12_size2 (l : Launch) (G : jG) (a : Nat) (x : Nat) (y : Nat) : jS l G yJ46_size mJ46_size 1 [.ref a] [IL2 G a x y] (0) (jret (fun v9 Ψ => v9 = some (.int (iI 2)) ∧ Ψ = [])) := by
  refine jS_of (plainFor_of_name (by decide)) rfl rfl rfl (Nat.le_of_ble_eq_true rfl) (fun X => ?_)
  show jT mJ46_size l G _ _ _ X [IL2 G a x y] 0 [(0, .ref a)] [] _
  refine jt_dup 0 rfl jpers_IL2 ?_
  refine jt_open ?_
  rintro ge ⟨hge, hne⟩
  try dsimp only at hge hne
  show jT mJ46_size l G _ _ _ X [im a 22 [.ref x, .ref y], IL2 G a x y] 0 [(0, .ref a)] [] _
  have hge2 : jSV G 8 = .ref ge := hge
  refine jlv_aload_n dJ46_size_0 rfl 0 rfl ?_
  refine jr_get 0 rfl rfl 1 q1834 (Or.inl rfl) rfl dJ46_size_1 ?_
  refine jr_getsN 8 rfl (List.mem_of_getElem? (i := 6) rfl) rfl dJ46_size_4 ?_
  refine jt_eq (st' := [.ref ge, .ref y]) (lv' := [(0, .ref a)]) (by rw [hge2]) rfl ?_
  refine jlv_acmp_eq (rx := (some y)) (ry := (some ge)) (tgt := 14) dJ46_size_7 (by decide) (fun h_160 => absurd h_160 (by intro q; injection q with q; exact hne q)) (fun h_160 => ?_)
  refine jlv_iconst (v := iI 2) dJ46_size_10 rfl ?_
  refine jlv_goto (tgt := 15) dJ46_size_11 (by decide) ?_
  exact jr_zret dJ46_size_15 rfl rfl (Ψ := []) ⟨rfl, rfl⟩ (js_pickP [] [] rfl trivial rfl)

abbrev mJ46_get : jM := (cJ46_get, RJ46, 2, (Option.some (FieldType.object "java/lang/Object")), "get", none)
theorem oJ46_get : jcode yJ46_get mJ46_get := q1307
theorem pJ46_get : jpar yJ46_get 1 := ⟨by decide +kernel, by decide +kernel, by decide +kernel⟩
theorem sp_L12_get1 (l : Launch) (G : jG) (a : Nat) (x : Nat) : jS l G yJ46_get mJ46_get 1 [.ref a, .int (iI 0)] [IL1 G a x] (0) (jret (fun v9 Ψ => v9 = some (.ref x) ∧ Ψ = [])) := by
  refine jS_of (plainFor_of_name (by decide)) rfl rfl rfl (Nat.le_of_ble_eq_true rfl) (fun X => ?_)
  show jT mJ46_get l G _ _ _ X [IL1 G a x] 0 [(0, .ref a), (1, .int (iI 0))] [] _
  refine jt_dup 0 rfl jpers_IL1 ?_
  refine jt_open ?_
  rintro ge hge
  try dsimp only at hge
  show jT mJ46_get l G _ _ _ X [im a 22 [.ref x, .ref ge], IL1 G a x] 0 [(0, .ref a), (1, .int (iI 0))] [] _
  refine jlv_iload_n dJ46_get_0 rfl 1 rfl ?_
  refine ji_if_ne 9 (by decide) dJ46_get_1 (by decide) (fun h_161 => absurd h_161 (by decide)) (fun h_161 => ?_)
  refine jlv_aload_n dJ46_get_4 rfl 0 rfl ?_
  refine jr_get 0 rfl rfl 0 q1833 (Or.inl rfl) rfl dJ46_get_5 ?_
  exact jr_aret dJ46_get_8 rfl (Or.inl ⟨_, rfl⟩) (Or.inr ⟨_, rfl⟩) (Ψ := []) ⟨rfl, rfl⟩ (js_pickP [] [] rfl trivial rfl)

theorem sp_L12_get2 (l : Launch) (G : jG) (a : Nat) (x : Nat) (y : Nat) : jS l G yJ46_get mJ46_get 1 [.ref a, .int (iI 0)] [IL2 G a x y] (0) (jret (fun v9 Ψ => v9 = some (.ref x) ∧ Ψ = [])) := by
  refine jS_of (plainFor_of_name (by decide)) rfl rfl rfl (Nat.le_of_ble_eq_true rfl) (fun X => ?_)
  show jT mJ46_get l G _ _ _ X [IL2 G a x y] 0 [(0, .ref a), (1, .int (iI 0))] [] _
  refine jt_dup 0 rfl jpers_IL2 ?_
  refine jt_open ?_
  rintro ge ⟨hge, hne⟩
  try dsimp only at hge hne
  show jT mJ46_get l G _ _ _ X [im a 22 [.ref x, .ref y], IL2 G a x y] 0 [(0, .ref a), (1, .int (iI 0))] [] _
  refine jlv_iload_n dJ46_get_0 rfl 1 rfl ?_
  refine ji_if_ne 9 (by decide) dJ46_get_1 (by decide) (fun h_162 => absurd h_162 (by decide)) (fun h_162 => ?_)
  refine jlv_aload_n dJ46_get_4 rfl 0 rfl ?_
  refine jr_get 0 rfl rfl 0 q1833 (Or.inl rfl) rfl dJ46_get_5 ?_
  exact jr_aret dJ46_get_8 rfl (Or.inl ⟨_, rfl⟩) (Or.inr ⟨_, rfl⟩) (Ψ := []) ⟨rfl, rfl⟩ (js_pickP [] [] rfl trivial rfl)

theorem sp_L12_get3 (l : Launch) (G : jG) (a : Nat) (x : Nat) (y : Nat) : jS l G yJ46_get mJ46_get 1 [.ref a, .int (iI 1)] [IL2 G a x y] (0) (jret (fun v9 Ψ => v9 = some (.ref y) ∧ Ψ = [])) := by
  refine jS_of (plainFor_of_name (by decide)) rfl rfl rfl (Nat.le_of_ble_eq_true rfl) (fun X => ?_)
  show jT mJ46_get l G _ _ _ X [IL2 G a x y] 0 [(0, .ref a), (1, .int (iI 1))] [] _
  refine jt_dup 0 rfl jpers_IL2 ?_
  refine jt_open ?_
  rintro ge ⟨hge, hne⟩
  try dsimp only at hge hne
  show jT mJ46_get l G _ _ _ X [im a 22 [.ref x, .ref y], IL2 G a x y] 0 [(0, .ref a), (1, .int (iI 1))] [] _
  have hge2 : jSV G 8 = .ref ge := hge
  refine jlv_iload_n dJ46_get_0 rfl 1 rfl ?_
  refine ji_if_ne 9 (by decide) dJ46_get_1 (by decide) (fun h_163 => ?_) (fun h_163 => absurd h_163 (by decide))
  refine jlv_iload_n dJ46_get_9 rfl 1 rfl ?_
  refine jlv_iconst (v := iI 1) dJ46_get_10 rfl ?_
  refine ji_icmp_ne 29 (by decide) (by decide) dJ46_get_11 (by decide) (fun h_164 => absurd h_164 (by decide)) (fun h_164 => ?_)
  refine jlv_aload_n dJ46_get_14 rfl 0 rfl ?_
  refine jr_get 0 rfl rfl 1 q1834 (Or.inl rfl) rfl dJ46_get_15 ?_
  refine jr_getsN 8 rfl (List.mem_of_getElem? (i := 6) rfl) rfl dJ46_get_18 ?_
  refine jt_eq (st' := [.ref ge, .ref y]) (lv' := [(0, .ref a), (1, .int (iI 1))]) (by rw [hge2]) rfl ?_
  refine jlv_acmp_eq (rx := (some y)) (ry := (some ge)) (tgt := 29) dJ46_get_21 (by decide) (fun h_165 => absurd h_165 (by intro q; injection q with q; exact hne q)) (fun h_165 => ?_)
  refine jlv_aload_n dJ46_get_24 rfl 0 rfl ?_
  refine jr_get 0 rfl rfl 1 q1834 (Or.inl rfl) rfl dJ46_get_25 ?_
  exact jr_aret dJ46_get_28 rfl (Or.inl ⟨_, rfl⟩) (Or.inr ⟨_, rfl⟩) (Ψ := []) ⟨rfl, rfl⟩ (js_pickP [] [] rfl trivial rfl)

abbrev mJ47_size : jM := (cJ47_size, RJ47, 1, (Option.some FieldType.int), "size", none)
theorem oJ47_size : jcode yJ47_size mJ47_size := q1024
theorem pJ47_size : jpar yJ47_size 0 := ⟨by decide +kernel, by decide +kernel, by decide +kernel⟩
theorem sp_LN_size (l : Launch) (G : jG) (a : Nat) (vs : List Nat) : jS l G yJ47_size mJ47_size 1 [.ref a] [ILN a vs] (0) (jret (fun v9 Ψ => v9 = some (.int (iI (vs.length : Int))) ∧ Ψ = [])) := by
  refine jS_of (plainFor_of_name (by decide)) rfl rfl rfl (Nat.le_of_ble_eq_true rfl) (fun X => ?_)
  show jT mJ47_size l G _ _ _ X [ILN a vs] 0 [(0, .ref a)] [] _
  refine jt_dup 0 rfl jpers_ILN ?_
  refine jt_open ?_
  rintro arr ⟨hl1, hl2⟩
  try dsimp only at hl1 hl2
  show jT mJ47_size l G _ _ _ X [im a 23 [.ref arr, .int (iI 0)], ia arr 5 (vs.map Value.ref), ILN a vs] 0 [(0, .ref a)] [] _
  refine jlv_aload_n dJ47_size_0 rfl 0 rfl ?_
  refine jr_get 0 rfl rfl 0 q1853 (Or.inl rfl) rfl dJ47_size_1 ?_
  refine jr_alen 1 rfl (ty := .object "java/lang/Object") rfl dJ47_size_4 (n := iI (vs.length : Int)) (by rw [show _ = _ from List.length_map _]; rfl) ?_
  exact jr_zret dJ47_size_5 rfl rfl (Ψ := []) ⟨rfl, rfl⟩ (js_pickP [] [] rfl trivial rfl)

abbrev mJ47_get : jM := (cJ47_get, RJ47, 2, (Option.some (FieldType.object "java/lang/Object")), "get", none)
theorem oJ47_get : jcode yJ47_get mJ47_get := q1318
theorem pJ47_get : jpar yJ47_get 1 := ⟨by decide +kernel, by decide +kernel, by decide +kernel⟩
theorem sp_LN_get (l : Launch) (G : jG) (a : Nat) (vs : List Nat) (i : Nat) (v : Nat) (hv : vs[i]? = some v) : jS l G yJ47_get mJ47_get 1 [.ref a, .int (iI (i : Int))] [ILN a vs] (0) (jret (fun v9 Ψ => v9 = some (.ref v) ∧ Ψ = [])) := by
  refine jS_of (plainFor_of_name (by decide)) rfl rfl rfl (Nat.le_of_ble_eq_true rfl) (fun X => ?_)
  show jT mJ47_get l G _ _ _ X [ILN a vs] 0 [(0, .ref a), (1, .int (iI (i : Int)))] [] _
  have hi := jlt hv
  refine jt_dup 0 rfl jpers_ILN ?_
  refine jt_open ?_
  rintro arr ⟨hl1, hl2⟩
  try dsimp only at hl1 hl2
  show jT mJ47_get l G _ _ _ X [im a 23 [.ref arr, .int (iI 0)], ia arr 5 (vs.map Value.ref), ILN a vs] 0 [(0, .ref a), (1, .int (iI (i : Int)))] [] _
  refine jlv_aload_n dJ47_get_0 rfl 0 rfl ?_
  refine jr_get 0 rfl rfl 0 q1853 (Or.inl rfl) rfl dJ47_get_1 ?_
  refine jlv_iload_n dJ47_get_4 rfl 1 rfl ?_
  refine jr_aald 1 rfl (E := "java/lang/Object") rfl (n := i) (iI_eqn (by omega) (by omega)) (v := .ref v) (by rw [List.getElem?_map, hv]; rfl) dJ47_get_5 ?_
  exact jr_aret dJ47_get_6 rfl (Or.inl ⟨_, rfl⟩) (Or.inr ⟨_, rfl⟩) (Ψ := []) ⟨rfl, rfl⟩ (js_pickP [] [] rfl trivial rfl)

