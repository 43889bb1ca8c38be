set_option maxRecDepth 100000
/-- a list just made -/
def AL0 (G : jG) (a : Nat) : jP := jbun (fun arr : Nat => jSV G jiEmptyArr = .ref arr) (fun arr => [ow a 0 [.int (iI 0), .ref arr, .int (iI 0)], ia arr 5 []])
theorem AL0_has {G : jG} {a : Nat} : jhas (AL0 G a) a 0 := jhas_bun fun x _ => ⟨0, false, _, rfl⟩
abbrev mJ54_equals : jM := (cJ54_equals, RJ54, 2, (Option.some FieldType.boolean), "equals", none)
theorem oJ54_equals : jcode yJ54_equals mJ54_equals := q988
theorem pJ54_equals : jpar yJ54_equals 1 := ⟨by decide +kernel, by decide +kernel, by decide +kernel⟩
theorem sp_Obj_equals (l : Launch) (G : jG) (a : Nat) (b : Nat) : jS l G yJ54_equals mJ54_equals 1 [.ref a, .ref b] [] (0) (jret (fun v9 Ψ => v9 = some (.int (jB (decide (a = b)))) ∧ Ψ = [])) := by
  refine jS_of (by decide +kernel) rfl rfl rfl (Nat.le_of_ble_eq_true rfl) (fun X => ?_)
  show jT mJ54_equals l G _ _ _ X [] 0 [(0, .ref a), (1, .ref b)] [] _
  refine jlv_aload_n dJ54_equals_0 rfl 0 rfl ?_
  refine jlv_aload_n dJ54_equals_1 rfl 1 rfl ?_
  refine jlv_acmp_ne (rx := (some a)) (ry := (some b)) (tgt := 9) dJ54_equals_2 (by decide) (fun h_149 => ?_) (fun h_149 => ?_)
  · skip
    refine jlv_iconst (v := iI 0) dJ54_equals_9 rfl ?_
    exact jr_zret dJ54_equals_10 rfl rfl (Ψ := []) ⟨(by congr 2; exact jB_f (decide_eq_false (fun q => h_149 (by rw [q])))), rfl⟩ (js_pickP [] [] rfl trivial rfl)
  · skip
    refine jlv_iconst (v := iI 1) dJ54_equals_5 rfl ?_
    refine jlv_goto (tgt := 10) dJ54_equals_6 (by decide) ?_
    exact jr_zret dJ54_equals_10 rfl rfl (Ψ := []) ⟨(by congr 2; exact jB_t (decide_eq_true (by injection h_149))), rfl⟩ (js_pickP [] [] rfl trivial rfl)

abbrev mJ2_remove_2 : jM := (cJ2_remove_2, RJ2, 5, (Option.some FieldType.boolean), "remove", none)
theorem oJ2_remove_2 : jcode yJ2_remove_2 mJ2_remove_2 := q2806
theorem pJ2_remove_2 : jpar yJ2_remove_2 1 := ⟨by decide +kernel, by decide +kernel, by decide +kernel⟩
theorem sp_AL_removeObj (l : Launch) (G : jG) (a : Nat) (vs : List Nat) (o : Nat) (n : Nat) (hn : vs[n]? = some o) (hf : ∀ j, j < n → vs[j]? ≠ some o) : jS l G yJ2_remove_2 mJ2_remove_2 3 [.ref a, .ref o] [AL G a vs, im o 40 []] (0) (jret (fun v9 Ψ => v9 = some (.int (iI 1)) ∧ Ψ = [AL G a (vs.eraseIdx n)])) := by
  refine jS_of (plainFor_of_name (by decide)) rfl rfl rfl (Nat.le_of_ble_eq_true rfl) (fun X => ?_)
  show jT mJ2_remove_2 l G _ _ _ X [AL G a vs, im o 40 []] 0 [(0, .ref a), (1, .ref o)] [] _
  have hnl := jlt hn
  refine jt_open ?_
  rintro ⟨mc, arr, junk, f⟩ ⟨h1, h2, h3⟩
  try dsimp only at h1 h2 h3
  show jT mJ2_remove_2 l G _ _ _ X [ow a 0 [.int mc, .ref arr, .int (iI (vs.length : Int))], jA f arr ((1, 5), vs.map Value.ref ++ junk), jEs "java/lang/Object" vs, im o 40 []] 0 [(0, .ref a), (1, .ref o)] [] _
  refine jlv_aload_n dJ2_remove_2_0 rfl 0 rfl ?_
  refine jr_get 0 rfl rfl 1 q177 (Or.inl rfl) rfl dJ2_remove_2_1 ?_
  refine jlv_astore_n (lv' := [(2, .ref arr), (0, .ref a), (1, .ref o)]) dJ2_remove_2_4 rfl (by decide) rfl ?_
  refine jlv_aload_n dJ2_remove_2_5 rfl 1 rfl ?_
  refine jr_get 0 rfl rfl 2 q182 (Or.inl rfl) rfl dJ2_remove_2_6 ?_
  refine jlv_istore_n (lv' := [(3, .int (iI (vs.length : Int))), (2, .ref arr), (0, .ref a), (1, .ref o)]) dJ2_remove_2_9 rfl (by decide) rfl ?_
  refine jlv_iconst (v := iI 0) dJ2_remove_2_10 rfl ?_
  refine jlv_istore (lv' := [(4, .int (iI 0)), (3, .int (iI (vs.length : Int))), (2, .ref arr), (0, .ref a), (1, .ref o)]) dJ2_remove_2_11 (by decide) rfl ?_
  refine jlv_aload_n dJ2_remove_2_13 rfl 4 rfl ?_
  refine jlv_ifnonnull (tgt := 39) dJ2_remove_2_14 (by decide) ?_
  have loop_150 : ∀ (k_152 : Nat) (k : Nat) (bb : Nat), n - k < k_152 → (k ≤ n) → jT mJ2_remove_2 l G 3 (0) (jret (fun v9 Ψ => v9 = some (.int (iI 1)) ∧ Ψ = [AL G a (vs.eraseIdx n)])) X [ow a 0 [.int mc, .ref arr, .int (iI (vs.length : Int))], jA f arr ((1, 5), vs.map Value.ref ++ junk), jEs "java/lang/Object" vs, im o 40 []] 39 [(4, .int (iI (k : Int))), (0, .ref a), (1, .ref o), (2, .ref arr), (3, .int (iI (vs.length : Int)))] [] bb := by
    intro k_152
    induction k_152 with
    | zero =>
      intro k bb hm
      exact absurd hm (Nat.not_lt_zero _)
    | succ k_152 ih_151 =>
      intro k bb hm hk
      refine jlv_iload dJ2_remove_2_39 0 rfl ?_
      refine jlv_iload_n dJ2_remove_2_41 rfl 4 rfl ?_
      refine ji_icmp_ge 65 (by omega) (by omega) dJ2_remove_2_42 (by decide) (fun h_153 => ?_) (fun h_153 => ?_)
      · skip
        exact absurd h_153 (by omega)
      · skip
        obtain ⟨ea, hea⟩ := l_get (show k < vs.length by omega)
        refine jlv_aload_n dJ2_remove_2_45 rfl 2 rfl ?_
        refine jlv_aload_n dJ2_remove_2_46 rfl 3 rfl ?_
        refine jlv_iload dJ2_remove_2_47 0 rfl ?_
        refine jr_aald 1 rfl (E := "java/lang/Object") rfl (n := k) (iI_eqn (by omega) (by omega)) (v := .ref ea) (al_at hea) dJ2_remove_2_49 ?_
        refine jr_callU (x := ⟨"java/lang/Object", "equals", "(Ljava/lang/Object;)Z"⟩) (owner := "java/lang/Object") [.ref ea] (sp_Obj_equals l G o ea) (rest := []) rfl 3 rfl rfl rfl q918 q920 q919 q959 q4331 oJ54_equals pJ54_equals (by decide) (by decide) (Nat.le_of_ble_eq_true rfl) [0, 1, 2, 3] [] rfl trivial (Φr := [ow a 0 [.int mc, .ref arr, .int (iI (vs.length : Int))], jA f arr ((1, 5), vs.map Value.ref ++ junk), jEs "java/lang/Object" vs, im o 40 []]) rfl (by first | omega | exact Nat.zero_le _) dJ2_remove_2_50 (fun v9 Ψ hq => ?_) (fun _ _ hq => hq.elim)
        obtain ⟨rfl, rfl⟩ := hq
        show jT mJ2_remove_2 l G _ _ _ X [ow a 0 [.int mc, .ref arr, .int (iI (vs.length : Int))], jA f arr ((1, 5), vs.map Value.ref ++ junk), jEs "java/lang/Object" vs, im o 40 []] 53 [(4, .int (iI (k : Int))), (0, .ref a), (1, .ref o), (2, .ref arr), (3, .int (iI (vs.length : Int)))] [.int (jB (decide (o = ea)))] _
        refine ji_bz_eq 59 dJ2_remove_2_53 (by decide) (fun h_154 => ?_) (fun h_154 => ?_)
        · skip
          have hne : ¬ o = ea := of_decide_eq_false h_154
          have hkn : k ≠ n := fun z => hne (by rw [z, hn] at hea; injection hea)
          refine ji_iinc (lv' := [(4, .int (iI ((k : Int) + 1))), (0, .ref a), (1, .ref o), (2, .ref arr), (3, .int (iI (vs.length : Int)))]) ((k : Int) + 1) (by omega) dJ2_remove_2_59 0 rfl (by decide) rfl ?_
          refine jlv_goto (tgt := 39) dJ2_remove_2_62 (by decide) ?_
          refine jt_pickP [0, 1, 2, 3] [] rfl trivial (Φ' := [ow a 0 [.int mc, .ref arr, .int (iI (vs.length : Int))], jA f arr ((1, 5), vs.map Value.ref ++ junk), jEs "java/lang/Object" vs, im o 40 []]) rfl ?_
          refine jt_lv [0, 1, 2, 3, 4] (lv' := [(4, .int (iI ((k : Int) + 1))), (0, .ref a), (1, .ref o), (2, .ref arr), (3, .int (iI (vs.length : Int)))]) rfl ?_
          exact ih_151 (k + 1) _ (by omega) (by omega)
        · skip
          have heq : o = ea := of_decide_eq_true h_154
          have hkn : k = n := (Nat.lt_or_ge k n).elim (fun z => absurd (by rw [hea, heq]) (hf k z)) (fun z => by omega)
          cases f with
          | true => exact absurd (h2 rfl).1 (by omega)
          | false =>
            refine jlv_goto (tgt := 67) dJ2_remove_2_56 (by decide) ?_
            refine jlv_aload_n dJ2_remove_2_67 rfl 1 rfl ?_
            refine jlv_aload_n dJ2_remove_2_68 rfl 3 rfl ?_
            refine jlv_iload dJ2_remove_2_69 0 rfl ?_
            refine jr_callV [.ref arr, .int (iI (k : Int))] (sp_AL_fastRemove l G a mc arr vs junk k (by omega) (h1)) (rest := []) 0 rfl rfl rfl q2006 q2008 (lw_g (lw_at lw_ms 17 rfl) rfl) q78 oJ2_fastRemove pJ2_fastRemove (by decide) (by decide) (Nat.le_of_ble_eq_true rfl) [0, 1, 2, 2, 3] [2] rfl ⟨⟨_, rfl, jpers_Es⟩, trivial⟩ (Φr := [jEs "java/lang/Object" vs, im o 40 []]) rfl (by first | omega | exact Nat.zero_le _) dJ2_remove_2_71 (fun v9 Ψ hq => ?_) (fun _ _ hq => hq.elim)
            obtain ⟨rfl, rfl⟩ := hq
            show jT mJ2_remove_2 l G _ _ _ X [AL G a (vs.eraseIdx k), jEs "java/lang/Object" vs, im o 40 []] 74 [(4, .int (iI (k : Int))), (0, .ref a), (1, .ref o), (2, .ref arr), (3, .int (iI (vs.length : Int)))] [] _
            refine jlv_iconst (v := iI 1) dJ2_remove_2_74 rfl ?_
            refine jt_same 0 (P := AL G a (vs.eraseIdx k)) (P' := AL G a (vs.eraseIdx n)) rfl (by rw [hkn]) (Φ' := [AL G a (vs.eraseIdx n), jEs "java/lang/Object" vs, im o 40 []]) rfl ?_
            exact jr_zret dJ2_remove_2_75 rfl rfl (Ψ := [AL G a (vs.eraseIdx n)]) ⟨rfl, rfl⟩ (js_pickP [0] [] rfl trivial rfl)
  refine jt_pickP [0, 1, 2, 3] [] rfl trivial (Φ' := [ow a 0 [.int mc, .ref arr, .int (iI (vs.length : Int))], jA f arr ((1, 5), vs.map Value.ref ++ junk), jEs "java/lang/Object" vs, im o 40 []]) rfl ?_
  refine jt_lv [0, 3, 4, 2, 1] (lv' := [(4, .int (iI 0)), (0, .ref a), (1, .ref o), (2, .ref arr), (3, .int (iI (vs.length : Int)))]) rfl ?_
  exact loop_150 _ 0 _ (Nat.lt_succ_self _) (Nat.zero_le _)

theorem sp_AL_init0 (l : Launch) (G : jG) (a : Nat) : jS l G yJ2_init mJ2_init 3 [.ref a] [ow a 0 [.int (iI 0), .null, .int (iI 0)]] (0) (jret (fun v9 Ψ => v9 = none ∧ Ψ = [AL0 G a])) := by
  refine jS_of (plainFor_of_name (by decide)) rfl rfl rfl (Nat.le_of_ble_eq_true rfl) (fun X => ?_)
  show jT mJ2_init l G _ _ _ X [ow a 0 [.int (iI 0), .null, .int (iI 0)]] 0 [(0, .ref a)] [] _
  refine jr_g0 (fun hg0 => ?_)
  obtain ⟨gi, ⟨gea, hgea, hgea2⟩, ⟨gem, hgem, hgem2⟩, ⟨gpr, hgpr, hgpr2⟩, ⟨gic, gicad, hgic, hgic2, hgic3⟩, ⟨gcc, gccad, hgcc, hgcc2, hgcc3⟩, grf, gks⟩ := hg0
  refine jlv_aload_n dJ2_init_0 rfl 0 rfl ?_
  refine jr_callI [] (sp_AbsList_init_AL l G a (iI 0) .null (iI 0)) (rest := []) rfl rfl rfl q168 q169 q77 oJ1_init pJ1_init (by decide) (by decide) (Nat.le_of_ble_eq_true rfl) [0] [] rfl trivial (Φr := []) rfl (by first | omega | exact Nat.zero_le _) dJ2_init_1 (fun v9 Ψ hq => ?_) (fun _ _ hq => hq.elim)
  obtain ⟨rfl, rfl⟩ := hq
  show jT mJ2_init l G _ _ _ X [ow a 0 [.int (iI 0), .null, .int (iI 0)]] 4 [(0, .ref a)] [] _
  refine jlv_aload_n dJ2_init_4 rfl 0 rfl ?_
  refine jr_getsV 7 rfl q175 hgea dJ2_init_5 ?_
  refine jr_put 0 rfl rfl 1 q177 (Or.inl rfl) rfl rfl rfl rfl rfl dJ2_init_8 (Φ' := [ow a 0 [.int (iI 0), .ref gea, .int (iI 0)]]) rfl ?_
  refine jt_old hgea2 ?_
  refine jt_pickP [1, 0] [] rfl trivial (Φ' := [ow a 0 [.int (iI 0), .ref gea, .int (iI 0)], jA true gea ((1, 5), [])]) rfl ?_
  refine jt_fold (A := [ow a 0 [.int (iI 0), .ref gea, .int (iI 0)], jA true gea ((1, 5), [])]) (P := AL0 G a) (fun h hh => ⟨gea, hgea, hh⟩) ?_
  show jT mJ2_init l G _ _ _ X [AL0 G a] 11 [(0, .ref a)] [] _
  exact jr_vret dJ2_init_11 rfl (Ψ := [AL0 G a]) ⟨rfl, rfl⟩ (js_pickP [0] [] rfl trivial rfl)

abbrev mJ2_toArray : jM := (cJ2_toArray, RJ2, 1, (Option.some (FieldType.array (FieldType.object "java/lang/Object"))), "toArray", none)
theorem oJ2_toArray : jcode yJ2_toArray mJ2_toArray := q1263
theorem pJ2_toArray : jpar yJ2_toArray 0 := ⟨by decide +kernel, by decide +kernel, by decide +kernel⟩
theorem sp_AL_toArray (l : Launch) (G : jG) (a : Nat) (vs : List Nat) : jS l G yJ2_toArray mJ2_toArray 4 [.ref a] [AL G a vs] ((vs.length + 7) / 4) (jret (fun v9 Ψ => ∃ r : Nat, v9 = some (.ref r) ∧ Ψ = [AL G a vs, oa r 5 (vs.map Value.ref), jEs "java/lang/Object" vs])) := by
  refine jS_of (plainFor_of_name (by decide)) rfl rfl rfl (Nat.le_of_ble_eq_true rfl) (fun X => ?_)
  show jT mJ2_toArray l G _ _ _ X [AL G a vs] 0 [(0, .ref a)] [] _
  refine jt_open ?_
  rintro ⟨mc, arr, junk, f⟩ ⟨h1, h2, h3⟩
  try dsimp only at h1 h2 h3
  show jT mJ2_toArray l G _ _ _ X [ow a 0 [.int mc, .ref arr, .int (iI (vs.length : Int))], jA f arr ((1, 5), vs.map Value.ref ++ junk), jEs "java/lang/Object" vs] 0 [(0, .ref a)] [] _
  refine jlv_aload_n dJ2_toArray_0 rfl 0 rfl ?_
  refine jr_get 0 rfl rfl 1 q177 (Or.inl rfl) rfl dJ2_toArray_1 ?_
  refine jlv_aload_n dJ2_toArray_4 rfl 0 rfl ?_
  refine jr_get 0 rfl rfl 2 q182 (Or.inl rfl) rfl dJ2_toArray_5 ?_
  refine jr_callS [.ref arr, .int (iI (vs.length : Int))] (sp_copyOf l G f arr vs junk vs.length (by omega) (by omega) (by omega)) (rest := []) q297 q298 q86 oJ9_copyOf pJ9_copyOf (by decide) (by decide) (Nat.le_of_ble_eq_true rfl) [1, 2, 0, 2] [2] rfl ⟨⟨_, rfl, jpers_Es⟩, trivial⟩ (Φr := [ow a 0 [.int mc, .ref arr, .int (iI (vs.length : Int))], jEs "java/lang/Object" vs]) rfl (by first | omega | exact Nat.zero_le _) dJ2_toArray_8 (fun v9 Ψ hq => ?_) (fun _ _ hq => hq.elim)
  obtain ⟨r, rfl, rfl⟩ := hq
  show jT mJ2_toArray l G _ _ _ X [jA f arr ((1, 5), vs.map Value.ref ++ junk), jEs "java/lang/Object" vs, oa r 5 (vs.map Value.ref ++ List.replicate (vs.length - vs.length) Value.null), ow a 0 [.int mc, .ref arr, .int (iI (vs.length : Int))], jEs "java/lang/Object" vs] 11 [(0, .ref a)] [.ref r] _
  refine jt_dup 1 rfl jpers_Es ?_
  refine jt_pickP [4, 1, 0, 2, 3, 5] [] rfl trivial (Φ' := [ow a 0 [.int mc, .ref arr, .int (iI (vs.length : Int))], jA f arr ((1, 5), vs.map Value.ref ++ junk), jEs "java/lang/Object" vs, jEs "java/lang/Object" vs, oa r 5 (vs.map Value.ref ++ List.replicate (vs.length - vs.length) Value.null), jEs "java/lang/Object" vs]) rfl ?_
  refine jt_fold (A := [ow a 0 [.int mc, .ref arr, .int (iI (vs.length : Int))], jA f arr ((1, 5), vs.map Value.ref ++ junk), jEs "java/lang/Object" vs]) (P := AL G a vs) (AL_fold h1 h2 h3 rfl rfl) ?_
  show jT mJ2_toArray l G _ _ _ X [AL G a vs, jEs "java/lang/Object" vs, oa r 5 (vs.map Value.ref ++ List.replicate (vs.length - vs.length) Value.null), jEs "java/lang/Object" vs] 11 [(0, .ref a)] [.ref r] _
  refine jt_same 2 (P := oa r 5 (vs.map Value.ref ++ List.replicate (vs.length - vs.length) Value.null)) (P' := oa r 5 (vs.map Value.ref)) rfl (by rw [Nat.sub_self, List.replicate_zero, List.append_nil]) (Φ' := [AL G a vs, jEs "java/lang/Object" vs, oa r 5 (vs.map Value.ref), jEs "java/lang/Object" vs]) rfl ?_
  exact jr_aret dJ2_toArray_11 rfl (Or.inr ⟨_, rfl⟩) (Or.inr ⟨_, rfl⟩) (Ψ := [AL G a vs, oa r 5 (vs.map Value.ref), jEs "java/lang/Object" vs]) ⟨r, rfl, rfl⟩ (js_pickP [0, 2, 1] [] rfl trivial rfl)

