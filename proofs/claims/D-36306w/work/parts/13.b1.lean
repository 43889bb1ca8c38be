set_option maxRecDepth 100000
/-- a StringBuilder of Latin-1 letters: the room of its array, the letters -/
def SB (a cap : Nat) (cs : List Nat) : jP := jbun (fun x : Bool × Nat × List Value => (∀ c ∈ cs, c < 256) ∧ cs.length + x.2.2.length = cap ∧ cap ≤ 1000000 ∧ jfit x.2.2) (fun x => [ow a 1 [.ref x.2.1, .int (iI 0), .int (jB x.1), .int (iI (cs.length : Int))], oa x.2.1 0 (lb cs ++ x.2.2)])
theorem SB_fold {a cap v : Nat} {m : Bool} {cs : List Nat} {junk L : List Value} {n : Int} (h1 : ∀ c ∈ cs, c < 256) (h2 : cs.length + junk.length = cap) (h3 : cap ≤ 1000000) (h4 : jfit junk) (hn : n = (cs.length : Int)) (hL : L = lb cs ++ junk) : ∀ h, jsl [ow a 1 [.ref v, .int (iI 0), .int (jB m), .int (iI n)], oa v 0 L] h → SB a cap cs h := fun h hh => by
  subst hn; subst hL
  exact ⟨(m, v, junk), ⟨h1, h2, h3, h4⟩, hh⟩
theorem SB_has {a cap : Nat} {cs : List Nat} : jhas (SB a cap cs) a 1 := jhas_bun fun x _ => ⟨0, false, _, rfl⟩
theorem SB_spec {a cap : Nat} {cs : List Nat} : ∀ h, SB a cap cs h → ((∀ c ∈ cs, c < 256) ∧ cs.length ≤ cap ∧ cap ≤ 1000000) := by
  rintro h ⟨x, ⟨h1, h2, h3, h4⟩, -⟩
  exact ⟨h1, by omega, h3⟩
theorem sb_len (cs : List Nat) (junk : List Value) : (lb cs ++ junk).length = cs.length + junk.length := by rw [List.length_append, lb_len]
/-- the room behind a growth, its price -/
def sbCap (cap n : Nat) : Nat := if n ≤ cap then cap else cap + max (n - cap) (cap + 2)
def sbC (cap n : Nat) : Nat := if n ≤ cap then 0 else (sbCap cap n + 7) / 4
theorem sbCap_ge (cap n : Nat) : n ≤ sbCap cap n ∧ cap ≤ sbCap cap n := by unfold sbCap; split <;> omega
theorem sb_add {cs : List Nat} {c : Nat} {junk : List Value} (h : 0 < junk.length) : (lb cs ++ junk).set cs.length (.int (iI (sb c))) = lb (cs ++ [c]) ++ junk.drop 1 := by
  match junk, h with
  | x :: r, _ =>
    rw [List.set_append_right _ _ (by rw [lb_len]; exact Nat.le_refl _), lb_len, Nat.sub_self]
    simp [lb]
theorem jfit_drop {L : List Value} (n : Nat) (h : jfit L) : jfit (L.drop n) := fun x hx => h x (List.mem_of_mem_drop hx)
theorem sb_appd {cs ds : List Nat} {junk : List Value} (h : ds.length ≤ junk.length) : jcpy (lb ds) (lb cs ++ junk) 0 cs.length ds.length = lb (cs ++ ds) ++ junk.drop ds.length := by
  unfold jcpy
  rw [List.drop_zero, List.take_of_length_le (l := lb ds) (by rw [lb_len]; exact Nat.le_refl _), List.take_append_of_le_length (by rw [lb_len]; exact Nat.le_refl _), List.take_of_length_le (l := lb cs) (by rw [lb_len]; exact Nat.le_refl _), List.drop_append, List.drop_of_length_le (l := lb cs) (by rw [lb_len]; omega), List.nil_append, lb_len, ← List.append_assoc]
  congr 1
  · simp [lb]
  · congr 1; omega
theorem sb_appd2 {cs ds : List Nat} {junk junk2 : List Value} (h : ds.length ≤ junk.length) : jcpy (lb ds ++ junk2) (lb cs ++ junk) 0 cs.length ds.length = lb (cs ++ ds) ++ junk.drop ds.length := by
  unfold jcpy
  rw [List.drop_zero, List.take_append_of_le_length (l₁ := lb ds) (by rw [lb_len]; exact Nat.le_refl _), List.take_of_length_le (l := lb ds) (by rw [lb_len]; exact Nat.le_refl _), List.take_append_of_le_length (l₁ := lb cs) (by rw [lb_len]; exact Nat.le_refl _), List.take_of_length_le (l := lb cs) (by rw [lb_len]; exact Nat.le_refl _), List.drop_append, List.drop_of_length_le (l := lb cs) (by rw [lb_len]; omega), List.nil_append, lb_len, ← List.append_assoc]
  congr 1
  · simp [lb]
  · congr 1; omega
theorem sb_all {cs : List Nat} {c : Nat} (h : ∀ x ∈ cs, x < 256) (hc : c < 256) : ∀ x ∈ cs ++ [c], x < 256 := fun x hx => (List.mem_append.mp hx).elim (h x) (fun q => by rw [List.mem_singleton.mp q]; exact hc)
theorem sb_all2 {cs ds : List Nat} (h : ∀ x ∈ cs, x < 256) (h2 : ∀ x ∈ ds, x < 256) : ∀ x ∈ cs ++ ds, x < 256 := fun x hx => (List.mem_append.mp hx).elim (h x) (h2 x)
theorem iI_shl0 (z : Int) : iI z <<< (iI 0 &&& 31) = iI z := by
  have e1 : (iI 0 &&& 31) = (0 : Int32) := by decide
  rw [e1]
  apply Int32.toBitVec_inj.mp
  show (iI z).toBitVec <<< _ = _
  simp
abbrev mJ3_init : jM := (cJ3_init, RJ3, 2, (Option.none : Option FieldType), "<init>", none)
theorem oJ3_init : jcode yJ3_init mJ3_init := q207
theorem pJ3_init : jpar yJ3_init 1 := ⟨by decide +kernel, by decide +kernel, by decide +kernel⟩
theorem sp_ASB_init (l : Launch) (G : jG) (a : Nat) : jS l G yJ3_init mJ3_init 2 [.ref a, .int (iI 16)] [ow a 1 [.null, .int (iI 0), .int (iI 0), .int (iI 0)]] (5) (jret (fun v9 Ψ => v9 = none ∧ Ψ = [SB a 16 []])) := by
  refine jS_of (plainFor_of_name (by decide)) rfl rfl rfl (Nat.le_of_ble_eq_true rfl) (fun X => ?_)
  show jT mJ3_init l G _ _ _ X [ow a 1 [.null, .int (iI 0), .int (iI 0), .int (iI 0)]] 0 [(0, .ref a), (1, .int (iI 16))] [] _
  refine jr_g0 (fun hg0 => ?_)
  obtain ⟨gi, ⟨gea, hgea, hgea2⟩, ⟨gem, hgem, hgem2⟩, ⟨gpr, hgpr, hgpr2⟩, ⟨gic, gicad, hgic, hgic2, hgic3⟩, ⟨gcc, gccad, hgcc, hgcc2, hgcc3⟩, grf, gks⟩ := hg0
  refine jlv_aload_n dJ3_init_0 rfl 0 rfl ?_
  refine jr_objInit q208 q161 q162 (by decide) (Nat.le_of_ble_eq_true rfl) dJ3_init_1 ?_
  refine jr_getsV 3 rfl q209 (v := .int (iI 1)) (gi (3, 1) (List.mem_of_getElem? (i := 0) rfl)) dJ3_init_4 ?_
  refine ji_if_eq 25 (by decide) dJ3_init_7 (by decide) (fun h_60 => absurd h_60 (by decide)) (fun h_60 => ?_)
  refine jlv_aload_n dJ3_init_10 rfl 0 rfl ?_
  refine jlv_iload_n dJ3_init_11 rfl 1 rfl ?_
  refine jr_newa (atype := .byte) (ty := .byte) q233 0 rfl rfl (fun c => (by intro z; cases z)) (N := 16) (by decide) (by show _ * 1 ≤ _; omega) (u := 5) (by omega) (by omega) (by omega) dJ3_init_12 (fun v => ?_)
  refine jr_put 1 rfl rfl 0 q218 (Or.inl rfl) rfl rfl rfl rfl rfl dJ3_init_14 (Φ' := [oa v 0 (List.replicate 16 (.int (iI 0))), ow a 1 [.ref v, .int (iI 0), .int (iI 0), .int (iI 0)]]) rfl ?_
  refine jlv_aload_n dJ3_init_17 rfl 0 rfl ?_
  refine jlv_iconst (v := iI 0) dJ3_init_18 rfl ?_
  refine jr_put 1 rfl rfl 1 q219 (Or.inl rfl) rfl rfl rfl rfl rfl dJ3_init_19 (Φ' := [oa v 0 (List.replicate 16 (.int (iI 0))), ow a 1 [.ref v, .int (iI 0), .int (iI 0), .int (iI 0)]]) rfl ?_
  refine jlv_goto (tgt := 38) dJ3_init_22 (by decide) ?_
  refine jt_pickP [1, 0] [] rfl trivial (Φ' := [ow a 1 [.ref v, .int (iI 0), .int (iI 0), .int (iI 0)], oa v 0 (List.replicate 16 (.int (iI 0)))]) rfl ?_
  refine jt_fold (A := [ow a 1 [.ref v, .int (iI 0), .int (iI 0), .int (iI 0)], oa v 0 (List.replicate 16 (.int (iI 0)))]) (P := SB a 16 []) (SB_fold (m := false) (fun c hc => by cases hc) (junk := List.replicate 16 (.int (iI 0))) (by decide) (by decide) (jfit_rep 16) rfl rfl) ?_
  show jT mJ3_init l G _ _ _ X [SB a 16 []] 38 [(0, .ref a), (1, .int (iI 16))] [] _
  exact jr_vret dJ3_init_38 rfl (Ψ := [SB a 16 []]) ⟨rfl, rfl⟩ (js_pickP [0] [] rfl trivial rfl)

abbrev mJ4_init : jM := (cJ4_init, RJ4, 1, (Option.none : Option FieldType), "<init>", none)
theorem oJ4_init : jcode yJ4_init mJ4_init := q204
theorem pJ4_init : jpar yJ4_init 0 := ⟨by decide +kernel, by decide +kernel, by decide +kernel⟩
theorem sp_SB_init (l : Launch) (G : jG) (a : Nat) : jS l G yJ4_init mJ4_init 3 [.ref a] [ow a 1 [.null, .int (iI 0), .int (iI 0), .int (iI 0)]] (5) (jret (fun v9 Ψ => v9 = none ∧ Ψ = [SB a 16 []])) := by
  refine jS_of (plainFor_of_name (by decide)) rfl rfl rfl (Nat.le_of_ble_eq_true rfl) (fun X => ?_)
  show jT mJ4_init l G _ _ _ X [ow a 1 [.null, .int (iI 0), .int (iI 0), .int (iI 0)]] 0 [(0, .ref a)] [] _
  refine jlv_aload_n dJ4_init_0 rfl 0 rfl ?_
  refine ji_bipush (by decide) dJ4_init_1 ?_
  refine jr_callI [.int (iI 16)] (sp_ASB_init l G a) (rest := []) rfl rfl rfl q205 q206 q79 oJ3_init pJ3_init (by decide) (by decide) (Nat.le_of_ble_eq_true rfl) [0] [] rfl trivial (Φr := []) rfl (by first | omega | exact Nat.zero_le _) dJ4_init_3 (fun v9 Ψ hq => ?_) (fun _ _ hq => hq.elim)
  obtain ⟨rfl, rfl⟩ := hq
  show jT mJ4_init l G _ _ _ X [SB a 16 []] 6 [(0, .ref a)] [] _
  exact jr_vret dJ4_init_6 rfl (Ψ := [SB a 16 []]) ⟨rfl, rfl⟩ (js_pickP [0] [] rfl trivial rfl)

abbrev mJ3_length : jM := (cJ3_length, RJ3, 1, (Option.some FieldType.int), "length", none)
theorem oJ3_length : jcode yJ3_length mJ3_length := q611
theorem pJ3_length : jpar yJ3_length 0 := ⟨by decide +kernel, by decide +kernel, by decide +kernel⟩
theorem sp_ASB_length (l : Launch) (G : jG) (a : Nat) (cap : Nat) (cs : List Nat) : jS l G yJ3_length mJ3_length 1 [.ref a] [SB a cap cs] (0) (jret (fun v9 Ψ => v9 = some (.int (iI (cs.length : Int))) ∧ Ψ = [SB a cap cs])) := by
  refine jS_of (plainFor_of_name (by decide)) rfl rfl rfl (Nat.le_of_ble_eq_true rfl) (fun X => ?_)
  show jT mJ3_length l G _ _ _ X [SB a cap cs] 0 [(0, .ref a)] [] _
  refine jt_open ?_
  rintro ⟨m, v, junk⟩ ⟨hb, hcap, hmx, hj⟩
  try dsimp only at hb hcap hmx hj
  show jT mJ3_length l G _ _ _ X [ow a 1 [.ref v, .int (iI 0), .int (jB m), .int (iI (cs.length : Int))], oa v 0 (lb cs ++ junk)] 0 [(0, .ref a)] [] _
  refine jlv_aload_n dJ3_length_0 rfl 0 rfl ?_
  refine jr_get 0 rfl rfl 3 q222 (Or.inl rfl) rfl dJ3_length_1 ?_
  refine jt_pickP [0, 1] [] rfl trivial (Φ' := [ow a 1 [.ref v, .int (iI 0), .int (jB m), .int (iI (cs.length : Int))], oa v 0 (lb cs ++ junk)]) rfl ?_
  refine jt_fold (A := [ow a 1 [.ref v, .int (iI 0), .int (jB m), .int (iI (cs.length : Int))], oa v 0 (lb cs ++ junk)]) (P := SB a cap cs) (SB_fold hb hcap hmx hj rfl rfl) ?_
  show jT mJ3_length l G _ _ _ X [SB a cap cs] 4 [(0, .ref a)] [.int (iI (cs.length : Int))] _
  exact jr_zret dJ3_length_4 rfl rfl (Ψ := [SB a cap cs]) ⟨rfl, rfl⟩ (js_pickP [0] [] rfl trivial rfl)

abbrev mJ4_length : jM := (cJ4_length, RJ4, 1, (Option.some FieldType.int), "length", none)
theorem oJ4_length : jcode yJ4_length mJ4_length := q609
theorem pJ4_length : jpar yJ4_length 0 := ⟨by decide +kernel, by decide +kernel, by decide +kernel⟩
theorem sp_SB_length (l : Launch) (G : jG) (a : Nat) (cap : Nat) (cs : List Nat) : jS l G yJ4_length mJ4_length 2 [.ref a] [SB a cap cs] (0) (jret (fun v9 Ψ => v9 = some (.int (iI (cs.length : Int))) ∧ Ψ = [SB a cap cs])) := by
  refine jS_of (plainFor_of_name (by decide)) rfl rfl rfl (Nat.le_of_ble_eq_true rfl) (fun X => ?_)
  show jT mJ4_length l G _ _ _ X [SB a cap cs] 0 [(0, .ref a)] [] _
  refine jlv_aload_n dJ4_length_0 rfl 0 rfl ?_
  refine jt_cls 0 rfl SB_has ?_
  refine jr_callSup [] (sp_ASB_length l G a cap cs) (rest := []) (by decide) rfl 0 rfl rfl q610 q606 q605 q231 q79 oJ3_length pJ3_length (by decide) (by decide) (Nat.le_of_ble_eq_true rfl) [1, 0] [] rfl trivial (Φr := [im a 1 []]) rfl (by first | omega | exact Nat.zero_le _) dJ4_length_1 (fun v9 Ψ hq => ?_) (fun _ _ hq => hq.elim)
  obtain ⟨rfl, rfl⟩ := hq
  show jT mJ4_length l G _ _ _ X [SB a cap cs, im a 1 []] 4 [(0, .ref a)] [.int (iI (cs.length : Int))] _
  exact jr_zret dJ4_length_4 rfl rfl (Ψ := [SB a cap cs]) ⟨rfl, rfl⟩ (js_pickP [0] [] rfl trivial rfl)

abbrev mJ3_isLatin1 : jM := (cJ3_isLatin1, RJ3, 1, (Option.some FieldType.boolean), "isLatin1", none)
theorem oJ3_isLatin1 : jcode yJ3_isLatin1 mJ3_isLatin1 := q490
theorem pJ3_isLatin1 : jpar yJ3_isLatin1 0 := ⟨by decide +kernel, by decide +kernel, by decide +kernel⟩
theorem sp_ASB_isLatin1 (l : Launch) (G : jG) (a : Nat) (cap : Nat) (cs : List Nat) : jS l G yJ3_isLatin1 mJ3_isLatin1 1 [.ref a] [SB a cap cs] (0) (jret (fun v9 Ψ => v9 = some (.int (iI 1)) ∧ Ψ = [SB a cap cs])) := by
  refine jS_of (plainFor_of_name (by decide)) rfl rfl rfl (Nat.le_of_ble_eq_true rfl) (fun X => ?_)
  show jT mJ3_isLatin1 l G _ _ _ X [SB a cap cs] 0 [(0, .ref a)] [] _
  refine jr_g0 (fun hg0 => ?_)
  obtain ⟨gi, ⟨gea, hgea, hgea2⟩, ⟨gem, hgem, hgem2⟩, ⟨gpr, hgpr, hgpr2⟩, ⟨gic, gicad, hgic, hgic2, hgic3⟩, ⟨gcc, gccad, hgcc, hgcc2, hgcc3⟩, grf, gks⟩ := hg0
  refine jt_open ?_
  rintro ⟨m, v, junk⟩ ⟨hb, hcap, hmx, hj⟩
  try dsimp only at hb hcap hmx hj
  show jT mJ3_isLatin1 l G _ _ _ X [ow a 1 [.ref v, .int (iI 0), .int (jB m), .int (iI (cs.length : Int))], oa v 0 (lb cs ++ junk)] 0 [(0, .ref a)] [] _
  refine jr_getsV 3 rfl q209 (v := .int (iI 1)) (gi (3, 1) (List.mem_of_getElem? (i := 0) rfl)) dJ3_isLatin1_0 ?_
  refine ji_if_eq 17 (by decide) dJ3_isLatin1_3 (by decide) (fun h_61 => absurd h_61 (by decide)) (fun h_61 => ?_)
  refine jlv_aload_n dJ3_isLatin1_6 rfl 0 rfl ?_
  refine jr_get 0 rfl rfl 1 q219 (Or.inl rfl) rfl dJ3_isLatin1_7 ?_
  refine ji_if_ne 17 (by decide) dJ3_isLatin1_10 (by decide) (fun h_62 => absurd h_62 (by decide)) (fun h_62 => ?_)
  refine jlv_iconst (v := iI 1) dJ3_isLatin1_13 rfl ?_
  refine jlv_goto (tgt := 18) dJ3_isLatin1_14 (by decide) ?_
  refine jt_pickP [0, 1] [] rfl trivial (Φ' := [ow a 1 [.ref v, .int (iI 0), .int (jB m), .int (iI (cs.length : Int))], oa v 0 (lb cs ++ junk)]) rfl ?_
  refine jt_fold (A := [ow a 1 [.ref v, .int (iI 0), .int (jB m), .int (iI (cs.length : Int))], oa v 0 (lb cs ++ junk)]) (P := SB a cap cs) (SB_fold hb hcap hmx hj rfl rfl) ?_
  show jT mJ3_isLatin1 l G _ _ _ X [SB a cap cs] 18 [(0, .ref a)] [.int (iI 1)] _
  exact jr_zret dJ3_isLatin1_18 rfl rfl (Ψ := [SB a cap cs]) ⟨rfl, rfl⟩ (js_pickP [0] [] rfl trivial rfl)

abbrev mJ3_getValue : jM := (cJ3_getValue, RJ3, 1, (Option.some (FieldType.array FieldType.byte)), "getValue", none)
theorem oJ3_getValue : jcode yJ3_getValue mJ3_getValue := q603
theorem pJ3_getValue : jpar yJ3_getValue 0 := ⟨by decide +kernel, by decide +kernel, by decide +kernel⟩
theorem sp_ASB_getValue (l : Launch) (G : jG) (a : Nat) (v : Nat) (c : Int32) (m : Int32) (n : Int32) : jS l G yJ3_getValue mJ3_getValue 1 [.ref a] [ow a 1 [.ref v, .int c, .int m, .int n]] (0) (jret (fun v9 Ψ => v9 = some (.ref v) ∧ Ψ = [ow a 1 [.ref v, .int c, .int m, .int n]])) := by
  refine jS_of (plainFor_of_name (by decide)) rfl rfl rfl (Nat.le_of_ble_eq_true rfl) (fun X => ?_)
  show jT mJ3_getValue l G _ _ _ X [ow a 1 [.ref v, .int c, .int m, .int n]] 0 [(0, .ref a)] [] _
  refine jlv_aload_n dJ3_getValue_0 rfl 0 rfl ?_
  refine jr_get 0 rfl rfl 0 q218 (Or.inl rfl) rfl dJ3_getValue_1 ?_
  exact jr_aret dJ3_getValue_4 rfl (Or.inr ⟨_, rfl⟩) (Or.inr ⟨_, rfl⟩) (Ψ := [ow a 1 [.ref v, .int c, .int m, .int n]]) ⟨rfl, rfl⟩ (js_pickP [0] [] rfl trivial rfl)

abbrev mJ3_getCoder : jM := (cJ3_getCoder, RJ3, 1, (Option.some FieldType.byte), "getCoder", none)
theorem oJ3_getCoder : jcode yJ3_getCoder mJ3_getCoder := q2555
theorem pJ3_getCoder : jpar yJ3_getCoder 0 := ⟨by decide +kernel, by decide +kernel, by decide +kernel⟩
theorem sp_ASB_getCoder (l : Launch) (G : jG) (a : Nat) (cap : Nat) (cs : List Nat) : jS l G yJ3_getCoder mJ3_getCoder 1 [.ref a] [SB a cap cs] (0) (jret (fun v9 Ψ => v9 = some (.int (iI 0)) ∧ Ψ = [SB a cap cs])) := by
  refine jS_of (plainFor_of_name (by decide)) rfl rfl rfl (Nat.le_of_ble_eq_true rfl) (fun X => ?_)
  show jT mJ3_getCoder l G _ _ _ X [SB a cap cs] 0 [(0, .ref a)] [] _
  refine jr_g0 (fun hg0 => ?_)
  obtain ⟨gi, ⟨gea, hgea, hgea2⟩, ⟨gem, hgem, hgem2⟩, ⟨gpr, hgpr, hgpr2⟩, ⟨gic, gicad, hgic, hgic2, hgic3⟩, ⟨gcc, gccad, hgcc, hgcc2, hgcc3⟩, grf, gks⟩ := hg0
  refine jt_open ?_
  rintro ⟨m, v, junk⟩ ⟨hb, hcap, hmx, hj⟩
  try dsimp only at hb hcap hmx hj
  show jT mJ3_getCoder l G _ _ _ X [ow a 1 [.ref v, .int (iI 0), .int (jB m), .int (iI (cs.length : Int))], oa v 0 (lb cs ++ junk)] 0 [(0, .ref a)] [] _
  refine jr_getsV 3 rfl q209 (v := .int (iI 1)) (gi (3, 1) (List.mem_of_getElem? (i := 0) rfl)) dJ3_getCoder_0 ?_
  refine ji_if_eq 13 (by decide) dJ3_getCoder_3 (by decide) (fun h_63 => absurd h_63 (by decide)) (fun h_63 => ?_)
  refine jlv_aload_n dJ3_getCoder_6 rfl 0 rfl ?_
  refine jr_get 0 rfl rfl 1 q219 (Or.inl rfl) rfl dJ3_getCoder_7 ?_
  refine jlv_goto (tgt := 14) dJ3_getCoder_10 (by decide) ?_
  refine jt_pickP [0, 1] [] rfl trivial (Φ' := [ow a 1 [.ref v, .int (iI 0), .int (jB m), .int (iI (cs.length : Int))], oa v 0 (lb cs ++ junk)]) rfl ?_
  refine jt_fold (A := [ow a 1 [.ref v, .int (iI 0), .int (jB m), .int (iI (cs.length : Int))], oa v 0 (lb cs ++ junk)]) (P := SB a cap cs) (SB_fold hb hcap hmx hj rfl rfl) ?_
  show jT mJ3_getCoder l G _ _ _ X [SB a cap cs] 14 [(0, .ref a)] [.int (iI 0)] _
  exact jr_zret dJ3_getCoder_14 rfl rfl (Ψ := [SB a cap cs]) ⟨rfl, rfl⟩ (js_pickP [0] [] rfl trivial rfl)

abbrev mJ3_newCapacity : jM := (cJ3_newCapacity, RJ3, 6, (Option.some FieldType.int), "newCapacity", none)
theorem oJ3_newCapacity : jcode yJ3_newCapacity mJ3_newCapacity := q473
theorem pJ3_newCapacity : jpar yJ3_newCapacity 1 := ⟨by decide +kernel, by decide +kernel, by decide +kernel⟩
theorem sp_ASB_newCapacity (l : Launch) (G : jG) (a : Nat) (v : Nat) (m : Bool) (z : Int32) (L : List Value) (n : Nat) (hn : L.length < n) (hm : n ≤ 1000000) : jS l G yJ3_newCapacity mJ3_newCapacity 2 [.ref a, .int (iI (n : Int))] [ow a 1 [.ref v, .int (iI 0), .int (jB m), .int z], oa v 0 L] (0) (jret (fun v9 Ψ => v9 = some (.int (iI ((sbCap L.length n : Nat) : Int))) ∧ Ψ = [ow a 1 [.ref v, .int (iI 0), .int (jB m), .int z], oa v 0 L])) := by
  refine jS_of (plainFor_of_name (by decide)) rfl rfl rfl (Nat.le_of_ble_eq_true rfl) (fun X => ?_)
  show jT mJ3_newCapacity l G _ _ _ X [ow a 1 [.ref v, .int (iI 0), .int (jB m), .int z], oa v 0 L] 0 [(0, .ref a), (1, .int (iI (n : Int)))] [] _
  refine jlv_aload_n dJ3_newCapacity_0 rfl 0 rfl ?_
  refine jr_get 0 rfl rfl 0 q218 (Or.inl rfl) rfl dJ3_newCapacity_1 ?_
  refine jr_alen 1 rfl (ty := .byte) rfl dJ3_newCapacity_4 (n := iI (L.length : Int)) (by rw [show _ = _ from (rfl : L.length = _)]; rfl) ?_
  refine jlv_istore_n (lv' := [(2, .int (iI (L.length : Int))), (0, .ref a), (1, .int (iI (n : Int)))]) dJ3_newCapacity_5 rfl (by decide) rfl ?_
  refine jlv_iload_n dJ3_newCapacity_6 rfl 2 rfl ?_
  refine jlv_aload_n dJ3_newCapacity_7 rfl 1 rfl ?_
  refine jr_get 0 rfl rfl 1 q219 (Or.inl rfl) rfl dJ3_newCapacity_8 ?_
  refine jlv_ishl dJ3_newCapacity_11 ?_
  rw [iI_shl0]
  refine jlv_istore_n (lv' := [(3, .int (iI (n : Int))), (2, .int (iI (L.length : Int))), (0, .ref a), (1, .int (iI (n : Int)))]) dJ3_newCapacity_12 rfl (by decide) rfl ?_
  refine jlv_iload_n dJ3_newCapacity_13 rfl 0 rfl ?_
  refine jlv_iload_n dJ3_newCapacity_14 rfl 1 rfl ?_
  refine ji_isub ((n : Int) - (L.length : Int)) (by omega) dJ3_newCapacity_15 ?_
  refine jlv_istore (lv' := [(4, .int (iI ((n : Int) - (L.length : Int)))), (3, .int (iI (n : Int))), (2, .int (iI (L.length : Int))), (0, .ref a), (1, .int (iI (n : Int)))]) dJ3_newCapacity_16 (by decide) rfl ?_
  refine jlv_iload_n dJ3_newCapacity_18 rfl 2 rfl ?_
  refine jlv_iload dJ3_newCapacity_19 0 rfl ?_
  refine jlv_iload_n dJ3_newCapacity_21 rfl 2 rfl ?_
  refine jlv_iconst (v := iI 2) dJ3_newCapacity_22 rfl ?_
  refine jlv_aload_n dJ3_newCapacity_23 rfl 3 rfl ?_
  refine jr_get 0 rfl rfl 1 q219 (Or.inl rfl) rfl dJ3_newCapacity_24 ?_
  refine jlv_ishl dJ3_newCapacity_27 ?_
  rw [iI_shl0]
  refine ji_iadd ((L.length : Int) + 2) (by omega) dJ3_newCapacity_28 ?_
  have hcp : sbCap L.length n = L.length + max (n - L.length) (L.length + 2) := by unfold sbCap; rw [if_neg (by omega)]
  refine jt_eq (st' := [.int (iI ((L.length : Int) + 2)), .int (iI ((n - L.length : Nat) : Int)), .int (iI (L.length : Int))]) (lv' := [(4, .int (iI ((n : Int) - (L.length : Int)))), (3, .int (iI (n : Int))), (2, .int (iI (L.length : Int))), (0, .ref a), (1, .int (iI (n : Int)))]) (by first | rfl | rw [show (n : Int) - (L.length : Int) = ((n - L.length : Nat) : Int) by omega]) rfl ?_
  refine jt_eq (st' := [.int (iI ((L.length : Int) + 2)), .int (iI ((n - L.length : Nat) : Int)), .int (iI (L.length : Int))]) (lv' := [(4, .int (iI ((n : Int) - (L.length : Int)))), (3, .int (iI (n : Int))), (2, .int (iI (L.length : Int))), (0, .ref a), (1, .int (iI (n : Int)))]) (by first | rfl | rw [show (L.length : Int) + 2 = (L.length : Int) + 2 by omega]) rfl ?_
  refine jr_callS [.int (iI (L.length : Int)), .int (iI ((n - L.length : Nat) : Int)), .int (iI ((L.length : Int) + 2))] (sp_newLength l G L.length (n - L.length) (L.length + 2) (by omega) (by omega)) (rest := []) q474 q288 q84 oJ7_newLength pJ7_newLength (by decide) (by decide) (Nat.le_of_ble_eq_true rfl) [0, 1] [] rfl trivial (Φr := [ow a 1 [.ref v, .int (iI 0), .int (jB m), .int z], oa v 0 L]) rfl (by first | omega | exact Nat.zero_le _) dJ3_newCapacity_29 (fun v9 Ψ hq => ?_) (fun _ _ hq => hq.elim)
  obtain ⟨rfl, rfl⟩ := hq
  show jT mJ3_newCapacity l G _ _ _ X [ow a 1 [.ref v, .int (iI 0), .int (jB m), .int z], oa v 0 L] 32 [(4, .int (iI ((n : Int) - (L.length : Int)))), (3, .int (iI (n : Int))), (2, .int (iI (L.length : Int))), (0, .ref a), (1, .int (iI (n : Int)))] [.int (iI ((L.length : Int) + ((max (n - L.length) (L.length + 2) : Nat) : Int)))] _
  refine jt_eq (st' := [.int (iI ((sbCap L.length n : Nat) : Int))]) (lv' := [(4, .int (iI ((n : Int) - (L.length : Int)))), (3, .int (iI (n : Int))), (2, .int (iI (L.length : Int))), (0, .ref a), (1, .int (iI (n : Int)))]) (by rw [hcp]; rfl) rfl ?_
  refine jlv_istore (lv' := [(5, .int (iI ((sbCap L.length n : Nat) : Int))), (4, .int (iI ((n : Int) - (L.length : Int)))), (3, .int (iI (n : Int))), (2, .int (iI (L.length : Int))), (0, .ref a), (1, .int (iI (n : Int)))]) dJ3_newCapacity_32 (by decide) rfl ?_
  refine jlv_iload dJ3_newCapacity_34 0 rfl ?_
  refine jlv_ldc (v := iI 2147483647) q475 dJ3_newCapacity_36 ?_
  refine ji_icmp_ne 51 (by omega) (by omega) dJ3_newCapacity_38 (by decide) (fun h_64 => ?_) (fun h_64 => absurd h_64 (by omega))
  refine jlv_iload dJ3_newCapacity_51 0 rfl ?_
  refine jlv_aload_n dJ3_newCapacity_53 rfl 4 rfl ?_
  refine jr_get 0 rfl rfl 1 q219 (Or.inl rfl) rfl dJ3_newCapacity_54 ?_
  refine jlv_ishr dJ3_newCapacity_57 ?_
  rw [iI_shr0]
  exact jr_zret dJ3_newCapacity_58 rfl rfl (Ψ := [ow a 1 [.ref v, .int (iI 0), .int (jB m), .int z], oa v 0 L]) ⟨rfl, rfl⟩ (js_pickP [0, 1] [] rfl trivial rfl)

abbrev mJ3_ensureCapacityInternal : jM := (cJ3_ensureCapacityInternal, RJ3, 3, (Option.none : Option FieldType), "ensureCapacityInternal", none)
theorem oJ3_ensureCapacityInternal : jcode yJ3_ensureCapacityInternal mJ3_ensureCapacityInternal := q469
theorem pJ3_ensureCapacityInternal : jpar yJ3_ensureCapacityInternal 1 := ⟨by decide +kernel, by decide +kernel, by decide +kernel⟩
theorem sp_ASB_ensure (l : Launch) (G : jG) (a : Nat) (cap : Nat) (cs : List Nat) (n : Nat) (hn : n ≤ 300000) (hcap : cap ≤ 300000) : jS l G yJ3_ensureCapacityInternal mJ3_ensureCapacityInternal 3 [.ref a, .int (iI (n : Int))] [SB a cap cs] (sbC cap n) (jret (fun v9 Ψ => v9 = none ∧ Ψ = [SB a (sbCap cap n) cs])) := by
  refine jS_of (plainFor_of_name (by decide)) rfl rfl rfl (Nat.le_of_ble_eq_true rfl) (fun X => ?_)
  show jT mJ3_ensureCapacityInternal l G _ _ _ X [SB a cap cs] 0 [(0, .ref a), (1, .int (iI (n : Int)))] [] _
  have hge := sbCap_ge cap n
  refine jt_open ?_
  rintro ⟨m, v, junk⟩ ⟨hb, hcap2, hmx, hj⟩
  try dsimp only at hb hcap2 hmx hj
  show jT mJ3_ensureCapacityInternal l G _ _ _ X [ow a 1 [.ref v, .int (iI 0), .int (jB m), .int (iI (cs.length : Int))], oa v 0 (lb cs ++ junk)] 0 [(0, .ref a), (1, .int (iI (n : Int)))] [] _
  refine jlv_aload_n dJ3_ensureCapacityInternal_0 rfl 0 rfl ?_
  refine jr_get 0 rfl rfl 0 q218 (Or.inl rfl) rfl dJ3_ensureCapacityInternal_1 ?_
  refine jr_alen 1 rfl (ty := .byte) rfl dJ3_ensureCapacityInternal_4 (n := iI (cap : Int)) (by rw [show _ = _ from (show (lb cs ++ junk).length = cap by rw [sb_len]; exact hcap2)]; rfl) ?_
  refine jlv_aload_n dJ3_ensureCapacityInternal_5 rfl 0 rfl ?_
  refine jr_get 0 rfl rfl 1 q219 (Or.inl rfl) rfl dJ3_ensureCapacityInternal_6 ?_
  refine jlv_ishr dJ3_ensureCapacityInternal_9 ?_
  rw [iI_shr0]
  refine jlv_istore_n (lv' := [(2, .int (iI (cap : Int))), (0, .ref a), (1, .int (iI (n : Int)))]) dJ3_ensureCapacityInternal_10 rfl (by decide) rfl ?_
  refine jlv_iload_n dJ3_ensureCapacityInternal_11 rfl 2 rfl ?_
  refine jlv_iload_n dJ3_ensureCapacityInternal_12 rfl 0 rfl ?_
  refine ji_isub ((n : Int) - (cap : Int)) (by omega) dJ3_ensureCapacityInternal_13 ?_
  refine ji_if_le 38 (by omega) dJ3_ensureCapacityInternal_14 (by decide) (fun h_65 => ?_) (fun h_65 => ?_)
  · skip
    have hsc : sbCap cap n = cap := by unfold sbCap; rw [if_pos (by omega)]
    refine jt_pickP [0, 1] [] rfl trivial (Φ' := [ow a 1 [.ref v, .int (iI 0), .int (jB m), .int (iI (cs.length : Int))], oa v 0 (lb cs ++ junk)]) rfl ?_
    refine jt_fold (A := [ow a 1 [.ref v, .int (iI 0), .int (jB m), .int (iI (cs.length : Int))], oa v 0 (lb cs ++ junk)]) (P := SB a (sbCap cap n) cs) (SB_fold hb (by rw [hsc]; exact hcap2) (by omega) hj rfl rfl) ?_
    show jT mJ3_ensureCapacityInternal l G _ _ _ X [SB a (sbCap cap n) cs] 38 [(2, .int (iI (cap : Int))), (0, .ref a), (1, .int (iI (n : Int)))] [] _
    exact jr_vret dJ3_ensureCapacityInternal_38 rfl (Ψ := [SB a (sbCap cap n) cs]) ⟨rfl, rfl⟩ (js_pickP [0] [] rfl trivial rfl)
  · skip
    have hsC : sbC cap n = (sbCap cap n + 7) / 4 := by unfold sbC; rw [if_neg (by omega)]
    have hsc : sbCap cap n = cap + max (n - cap) (cap + 2) := by unfold sbCap; rw [if_neg (by omega)]
    have hll : (lb cs ++ junk).length = cap := by rw [sb_len]; exact hcap2
    refine jlv_aload_n dJ3_ensureCapacityInternal_17 rfl 1 rfl ?_
    refine jlv_aload_n dJ3_ensureCapacityInternal_18 rfl 1 rfl ?_
    refine jr_get 0 rfl rfl 0 q218 (Or.inl rfl) rfl dJ3_ensureCapacityInternal_19 ?_
    refine jlv_aload_n dJ3_ensureCapacityInternal_22 rfl 1 rfl ?_
    refine jlv_iload_n dJ3_ensureCapacityInternal_23 rfl 2 rfl ?_
    refine jr_callU (x := ⟨"java/lang/AbstractStringBuilder", "newCapacity", "(I)I"⟩) (owner := "java/lang/AbstractStringBuilder") [.int (iI (n : Int))] (sp_ASB_newCapacity l G a v m (iI (cs.length : Int)) (lb cs ++ junk) n (by omega) (by omega)) (rest := [.ref v, .ref a]) rfl 0 rfl rfl rfl q470 q4291 q472 (lw_g (lw_at lw_mx 2 rfl) rfl) q79 oJ3_newCapacity pJ3_newCapacity (by decide) (by decide) (Nat.le_of_ble_eq_true rfl) [0, 1] [] rfl trivial (Φr := []) rfl (by first | omega | exact Nat.zero_le _) dJ3_ensureCapacityInternal_24 (fun v9 Ψ hq => ?_) (fun _ _ hq => hq.elim)
    obtain ⟨rfl, rfl⟩ := hq
    show jT mJ3_ensureCapacityInternal l G _ _ _ X [ow a 1 [.ref v, .int (iI 0), .int (jB m), .int (iI (cs.length : Int))], oa v 0 (lb cs ++ junk)] 27 [(2, .int (iI (cap : Int))), (0, .ref a), (1, .int (iI (n : Int)))] [.int (iI ((sbCap (lb cs ++ junk).length n : Nat) : Int)), .ref v, .ref a] _
    refine jt_eq (st' := [.int (iI ((sbCap cap n : Nat) : Int)), .ref v, .ref a]) (lv' := [(2, .int (iI (cap : Int))), (0, .ref a), (1, .int (iI (n : Int)))]) (by rw [hll]) rfl ?_
    refine jlv_aload_n dJ3_ensureCapacityInternal_27 rfl 1 rfl ?_
    refine jr_get 0 rfl rfl 1 q219 (Or.inl rfl) rfl dJ3_ensureCapacityInternal_28 ?_
    refine jlv_ishl dJ3_ensureCapacityInternal_31 ?_
    rw [iI_shl0]
    refine jr_callS [.ref v, .int (iI ((sbCap cap n : Nat) : Int))] (sp_copyOfB l G false v (lb cs ++ junk) (sbCap cap n) (by omega) (by omega) (jfit_app (jfit_lb hb) hj)) (rest := [.ref a]) q476 q477 q86 oJ9_copyOf_3 pJ9_copyOf_3 (by decide) (by decide) (Nat.le_of_ble_eq_true rfl) [1, 0] [] rfl trivial (Φr := [ow a 1 [.ref v, .int (iI 0), .int (jB m), .int (iI (cs.length : Int))]]) rfl (by first | omega | exact Nat.zero_le _) dJ3_ensureCapacityInternal_32 (fun v9 Ψ hq => ?_) (fun _ _ hq => hq.elim)
    obtain ⟨w, rfl, rfl⟩ := hq
    show jT mJ3_ensureCapacityInternal l G _ _ _ X [oa v 0 (lb cs ++ junk), oa w 0 ((lb cs ++ junk) ++ List.replicate ((sbCap cap n) - (lb cs ++ junk).length) (.int (iI 0))), ow a 1 [.ref v, .int (iI 0), .int (jB m), .int (iI (cs.length : Int))]] 35 [(2, .int (iI (cap : Int))), (0, .ref a), (1, .int (iI (n : Int)))] [.ref w, .ref a] _
    refine jr_put 2 rfl rfl 0 q218 (Or.inl rfl) rfl rfl rfl rfl rfl dJ3_ensureCapacityInternal_35 (Φ' := [oa v 0 (lb cs ++ junk), oa w 0 ((lb cs ++ junk) ++ List.replicate ((sbCap cap n) - (lb cs ++ junk).length) (.int (iI 0))), ow a 1 [.ref w, .int (iI 0), .int (jB m), .int (iI (cs.length : Int))]]) rfl ?_
    refine jt_pickP [2, 1, 0] [] rfl trivial (Φ' := [ow a 1 [.ref w, .int (iI 0), .int (jB m), .int (iI (cs.length : Int))], oa w 0 (lb cs ++ junk ++ List.replicate (sbCap cap n - (lb cs ++ junk).length) (.int (iI 0))), oa v 0 (lb cs ++ junk)]) rfl ?_
    refine jt_fold (A := [ow a 1 [.ref w, .int (iI 0), .int (jB m), .int (iI (cs.length : Int))], oa w 0 (lb cs ++ junk ++ List.replicate (sbCap cap n - (lb cs ++ junk).length) (.int (iI 0)))]) (P := SB a (sbCap cap n) cs) (SB_fold hb (junk := junk ++ List.replicate (sbCap cap n - (lb cs ++ junk).length) (.int (iI 0))) (by rw [List.length_append, List.length_replicate]; omega) (by omega) (jfit_app hj (jfit_rep _)) rfl (List.append_assoc _ _ _)) ?_
    show jT mJ3_ensureCapacityInternal l G _ _ _ X [SB a (sbCap cap n) cs, oa v 0 (lb cs ++ junk)] 38 [(2, .int (iI (cap : Int))), (0, .ref a), (1, .int (iI (n : Int)))] [] _
    exact jr_vret dJ3_ensureCapacityInternal_38 rfl (Ψ := [SB a (sbCap cap n) cs]) ⟨rfl, rfl⟩ (js_pickP [0] [] rfl trivial rfl)

abbrev mJ3_append_3 : jM := (cJ3_append_3, RJ3, 2, (Option.some (FieldType.object "java/lang/AbstractStringBuilder")), "append", none)
theorem oJ3_append_3 : jcode yJ3_append_3 mJ3_append_3 := q2241
theorem pJ3_append_3 : jpar yJ3_append_3 1 := ⟨by decide +kernel, by decide +kernel, by decide +kernel⟩
theorem sp_ASB_appendC (l : Launch) (G : jG) (a : Nat) (cap : Nat) (cs : List Nat) (c : Nat) (hc : c < 256) (hcap0 : cap ≤ 299999) : jS l G yJ3_append_3 mJ3_append_3 4 [.ref a, .int (iI (c : Int))] [SB a cap cs] (sbC cap (cs.length + 1)) (jret (fun v9 Ψ => v9 = some (.ref a) ∧ Ψ = [SB a (sbCap cap (cs.length + 1)) (cs ++ [c])])) := by
  refine jS_of (plainFor_of_name (by decide)) rfl rfl rfl (Nat.le_of_ble_eq_true rfl) (fun X => ?_)
  show jT mJ3_append_3 l G _ _ _ X [SB a cap cs] 0 [(0, .ref a), (1, .int (iI (c : Int)))] [] _
  refine jt_pure 0 rfl SB_spec (fun hsp => ?_)
  show jT mJ3_append_3 l G _ _ _ X [SB a cap cs] 0 [(0, .ref a), (1, .int (iI (c : Int)))] [] _
  have hcl := hsp.2.1
  refine jt_open ?_
  rintro ⟨m, v, junk⟩ ⟨hb, hcap, hmx, hj⟩
  try dsimp only at hb hcap hmx hj
  show jT mJ3_append_3 l G _ _ _ X [ow a 1 [.ref v, .int (iI 0), .int (jB m), .int (iI (cs.length : Int))], oa v 0 (lb cs ++ junk)] 0 [(0, .ref a), (1, .int (iI (c : Int)))] [] _
  refine jlv_aload_n dJ3_append_3_0 rfl 0 rfl ?_
  refine jlv_aload_n dJ3_append_3_1 rfl 0 rfl ?_
  refine jr_get 0 rfl rfl 3 q222 (Or.inl rfl) rfl dJ3_append_3_2 ?_
  refine jlv_iconst (v := iI 1) dJ3_append_3_5 rfl ?_
  refine ji_iadd ((cs.length : Int) + 1) (by omega) dJ3_append_3_6 ?_
  refine jt_pickP [0, 1] [] rfl trivial (Φ' := [ow a 1 [.ref v, .int (iI 0), .int (jB m), .int (iI (cs.length : Int))], oa v 0 (lb cs ++ junk)]) rfl ?_
  refine jt_fold (A := [ow a 1 [.ref v, .int (iI 0), .int (jB m), .int (iI (cs.length : Int))], oa v 0 (lb cs ++ junk)]) (P := SB a cap cs) (SB_fold hb hcap hmx hj rfl rfl) ?_
  show jT mJ3_append_3 l G _ _ _ X [SB a cap cs] 7 [(0, .ref a), (1, .int (iI (c : Int)))] [.int (iI ((cs.length : Int) + 1)), .ref a] _
  refine jt_cls 0 rfl SB_has ?_
  refine jr_callU (x := ⟨"java/lang/AbstractStringBuilder", "ensureCapacityInternal", "(I)V"⟩) (owner := "java/lang/AbstractStringBuilder") [.int (iI ((cs.length : Int) + 1))] (sp_ASB_ensure l G a cap cs (cs.length + 1) (by have := hsp.2.1; omega) (by omega)) (rest := []) rfl 0 rfl rfl rfl q466 q4290 q468 (lw_g (lw_at lw_mx 1 rfl) rfl) q79 oJ3_ensureCapacityInternal pJ3_ensureCapacityInternal (by decide) (by decide) (Nat.le_of_ble_eq_true rfl) [1, 0] [] rfl trivial (Φr := [im a 1 []]) rfl (by first | omega | exact Nat.zero_le _) dJ3_append_3_7 (fun v9 Ψ hq => ?_) (fun _ _ hq => hq.elim)
  obtain ⟨rfl, rfl⟩ := hq
  show jT mJ3_append_3 l G _ _ _ X [SB a (sbCap cap (cs.length + 1)) cs, im a 1 []] 10 [(0, .ref a), (1, .int (iI (c : Int)))] [] _
  refine jlv_aload_n dJ3_append_3_10 rfl 0 rfl ?_
  refine jr_callU (x := ⟨"java/lang/AbstractStringBuilder", "isLatin1", "()Z"⟩) (owner := "java/lang/AbstractStringBuilder") [] (sp_ASB_isLatin1 l G a (sbCap cap (cs.length + 1)) cs) (rest := []) rfl 1 rfl rfl rfl q486 q488 q487 q489 q79 oJ3_isLatin1 pJ3_isLatin1 (by decide) (by decide) (Nat.le_of_ble_eq_true rfl) [0, 1] [] rfl trivial (Φr := [im a 1 []]) rfl (by first | omega | exact Nat.zero_le _) dJ3_append_3_11 (fun v9 Ψ hq => ?_) (fun _ _ hq => hq.elim)
  obtain ⟨rfl, rfl⟩ := hq
  show jT mJ3_append_3 l G _ _ _ X [SB a (sbCap cap (cs.length + 1)) cs, im a 1 []] 14 [(0, .ref a), (1, .int (iI (c : Int)))] [.int (iI 1)] _
  refine ji_if_eq 45 (by decide) dJ3_append_3_14 (by decide) (fun h_66 => absurd h_66 (by decide)) (fun h_66 => ?_)
  refine jlv_iload_n dJ3_append_3_17 rfl 1 rfl ?_
  refine jr_callS [.int (iI (c : Int))] (sp_canEncodeC l G c (by omega)) (rest := []) q2242 q2243 q95 oJ16_canEncode_2 pJ16_canEncode_2 (by decide) (by decide) (Nat.le_of_ble_eq_true rfl) [0, 1] [] rfl trivial (Φr := [SB a (sbCap cap (cs.length + 1)) cs, im a 1 []]) rfl (by first | omega | exact Nat.zero_le _) dJ3_append_3_18 (fun v9 Ψ hq => ?_) (fun _ _ hq => hq.elim)
  obtain ⟨rfl, rfl⟩ := hq
  show jT mJ3_append_3 l G _ _ _ X [SB a (sbCap cap (cs.length + 1)) cs, im a 1 []] 21 [(0, .ref a), (1, .int (iI (c : Int)))] [.int (jB (decide (c < 256)))] _
  refine ji_bz_eq 45 dJ3_append_3_21 (by decide) (fun h_67 => absurd h_67 (by simpa using hc)) (fun h_67 => ?_)
  have hge := sbCap_ge cap (cs.length + 1)
  refine jt_open ?_
  rintro ⟨m2, v2, junk2⟩ ⟨hb2, hcap2, hmx2, hj2⟩
  try dsimp only at hb2 hcap2 hmx2 hj2
  show jT mJ3_append_3 l G _ _ _ X [ow a 1 [.ref v2, .int (iI 0), .int (jB m2), .int (iI (cs.length : Int))], oa v2 0 (lb cs ++ junk2), im a 1 []] 24 [(0, .ref a), (1, .int (iI (c : Int)))] [] _
  refine jlv_aload_n dJ3_append_3_24 rfl 0 rfl ?_
  refine jr_get 0 rfl rfl 0 q218 (Or.inl rfl) rfl dJ3_append_3_25 ?_
  refine jlv_aload_n dJ3_append_3_28 rfl 0 rfl ?_
  refine jlv_dup dJ3_append_3_29 rfl ?_
  refine jr_get 0 rfl rfl 3 q222 (Or.inl rfl) rfl dJ3_append_3_30 ?_
  refine jlv_dup_x1 dJ3_append_3_33 rfl rfl ?_
  refine jlv_iconst (v := iI 1) dJ3_append_3_34 rfl ?_
  refine ji_iadd ((cs.length : Int) + 1) (by omega) dJ3_append_3_35 ?_
  refine jr_put 0 rfl rfl 3 q222 (Or.inl rfl) rfl rfl rfl rfl rfl dJ3_append_3_36 (Φ' := [ow a 1 [.ref v2, .int (iI 0), .int (jB m2), .int (iI ((cs.length : Int) + 1))], oa v2 0 (lb cs ++ junk2), im a 1 []]) rfl ?_
  refine jlv_iload_n dJ3_append_3_39 rfl 1 rfl ?_
  refine jlv_i2b (v := iI (sb c)) dJ3_append_3_40 (sb_i2b c hc) ?_
  refine jr_bast 1 rfl (n := cs.length) (iI_eqn (by omega) (by omega)) (by rw [sb_len]; omega) (v := .int (iI (sb c))) (sb_nar c hc) dJ3_append_3_41 (Φ' := [ow a 1 [.ref v2, .int (iI 0), .int (jB m2), .int (iI ((cs.length : Int) + 1))], oa v2 0 ((lb cs ++ junk2).set cs.length (.int (iI (sb c)))), im a 1 []]) rfl ?_
  refine jlv_goto (tgt := 75) dJ3_append_3_42 (by decide) ?_
  refine jlv_aload_n dJ3_append_3_75 rfl 0 rfl ?_
  refine jt_pickP [0, 1, 2] [] rfl trivial (Φ' := [ow a 1 [.ref v2, .int (iI 0), .int (jB m2), .int (iI ((cs.length : Int) + 1))], oa v2 0 ((lb cs ++ junk2).set cs.length (.int (iI (sb c)))), im a 1 []]) rfl ?_
  refine jt_fold (A := [ow a 1 [.ref v2, .int (iI 0), .int (jB m2), .int (iI ((cs.length : Int) + 1))], oa v2 0 ((lb cs ++ junk2).set cs.length (.int (iI (sb c))))]) (P := SB a (sbCap cap (cs.length + 1)) (cs ++ [c])) (SB_fold (sb_all hb2 hc) (junk := junk2.drop 1) (by rw [List.length_append, List.length_drop, List.length_singleton]; omega) hmx2 (jfit_drop 1 hj2) (by rw [List.length_append, List.length_singleton]; omega) (sb_add (by omega))) ?_
  show jT mJ3_append_3 l G _ _ _ X [SB a (sbCap cap (cs.length + 1)) (cs ++ [c]), im a 1 []] 76 [(0, .ref a), (1, .int (iI (c : Int)))] [.ref a] _
  exact jr_aret dJ3_append_3_76 rfl (Or.inl ⟨_, rfl⟩) (Or.inr ⟨_, rfl⟩) (Ψ := [SB a (sbCap cap (cs.length + 1)) (cs ++ [c])]) ⟨rfl, rfl⟩ (js_pickP [0] [] rfl trivial rfl)

abbrev mJ4_append_3 : jM := (cJ4_append_3, RJ4, 2, (Option.some (FieldType.object "java/lang/StringBuilder")), "append", none)
theorem oJ4_append_3 : jcode yJ4_append_3 mJ4_append_3 := q2238
theorem pJ4_append_3 : jpar yJ4_append_3 1 := ⟨by decide +kernel, by decide +kernel, by decide +kernel⟩
theorem sp_SB_appendC (l : Launch) (G : jG) (a : Nat) (cap : Nat) (cs : List Nat) (c : Nat) (hc : c < 256) (hcap0 : cap ≤ 299999) : jS l G yJ4_append_3 mJ4_append_3 5 [.ref a, .int (iI (c : Int))] [SB a cap cs] (sbC cap (cs.length + 1)) (jret (fun v9 Ψ => v9 = some (.ref a) ∧ Ψ = [SB a (sbCap cap (cs.length + 1)) (cs ++ [c])])) := by
  refine jS_of (plainFor_of_name (by decide)) rfl rfl rfl (Nat.le_of_ble_eq_true rfl) (fun X => ?_)
  show jT mJ4_append_3 l G _ _ _ X [SB a cap cs] 0 [(0, .ref a), (1, .int (iI (c : Int)))] [] _
  refine jlv_aload_n dJ4_append_3_0 rfl 0 rfl ?_
  refine jlv_iload_n dJ4_append_3_1 rfl 1 rfl ?_
  refine jt_cls 0 rfl SB_has ?_
  refine jr_callSup [.int (iI (c : Int))] (sp_ASB_appendC l G a cap cs c (hc) (hcap0)) (rest := []) (by decide) rfl 0 rfl rfl q2239 q4315 q2240 q231 q79 oJ3_append_3 pJ3_append_3 (by decide) (by decide) (Nat.le_of_ble_eq_true rfl) [1, 0] [] rfl trivial (Φr := [im a 1 []]) rfl (by first | omega | exact Nat.zero_le _) dJ4_append_3_2 (fun v9 Ψ hq => ?_) (fun _ _ hq => hq.elim)
  obtain ⟨rfl, rfl⟩ := hq
  show jT mJ4_append_3 l G _ _ _ X [SB a (sbCap cap (cs.length + 1)) (cs ++ [c]), im a 1 []] 5 [(0, .ref a), (1, .int (iI (c : Int)))] [.ref a] _
  refine jlv_pop dJ4_append_3_5 rfl ?_
  refine jlv_aload_n dJ4_append_3_6 rfl 0 rfl ?_
  exact jr_aret dJ4_append_3_7 rfl (Or.inl ⟨_, rfl⟩) (Or.inr ⟨_, rfl⟩) (Ψ := [SB a (sbCap cap (cs.length + 1)) (cs ++ [c])]) ⟨rfl, rfl⟩ (js_pickP [0] [] rfl trivial rfl)

abbrev mJ5_getBytes : jM := (cJ5_getBytes, RJ5, 4, (Option.none : Option FieldType), "getBytes", none)
theorem oJ5_getBytes : jcode yJ5_getBytes mJ5_getBytes := q557
theorem pJ5_getBytes : jpar yJ5_getBytes 3 := ⟨by decide +kernel, by decide +kernel, by decide +kernel⟩
theorem sp_S_getBytes (l : Launch) (G : jG) (b : Nat) (ds : List Nat) (v : Nat) (cs : List Nat) (junk : List Value) (hd : ds.length ≤ junk.length) (hm : cs.length + junk.length ≤ 2000000) : jS l G yJ5_getBytes mJ5_getBytes 2 [.ref b, .ref v, .int (iI (cs.length : Int)), .int (iI 0)] [jLs b ds, oa v 0 (lb cs ++ junk)] (0) (jret (fun v9 Ψ => v9 = none ∧ Ψ = [oa v 0 (lb (cs ++ ds) ++ junk.drop ds.length)])) := by
  refine jS_of (plainFor_of_name (by decide)) rfl rfl rfl (Nat.le_of_ble_eq_true rfl) (fun X => ?_)
  show jT mJ5_getBytes l G _ _ _ X [jLs b ds, oa v 0 (lb cs ++ junk)] 0 [(0, .ref b), (1, .ref v), (2, .int (iI (cs.length : Int))), (3, .int (iI 0))] [] _
  refine jt_dup 0 rfl jpers_jLs ?_
  refine jt_open ?_
  rintro w ⟨hb2, hl2⟩
  try dsimp only at hb2 hl2
  show jT mJ5_getBytes l G _ _ _ X [im b 2 [.ref w, .int (iI 0)], ia w 0 (lb ds), jLs b ds, oa v 0 (lb cs ++ junk)] 0 [(0, .ref b), (1, .ref v), (2, .int (iI (cs.length : Int))), (3, .int (iI 0))] [] _
  refine jlv_aload_n dJ5_getBytes_0 rfl 0 rfl ?_
  refine jr_callV [] (sp_S_coder l G b ds) (rest := []) 0 rfl rfl rfl q521 q522 q523 q81 oJ5_coder pJ5_coder (by decide) (by decide) (Nat.le_of_ble_eq_true rfl) [2, 0, 1, 2, 3] [2] rfl ⟨⟨_, rfl, jpers_jLs⟩, trivial⟩ (Φr := [im b 2 [.ref w, .int (iI 0)], ia w 0 (lb ds), jLs b ds, oa v 0 (lb cs ++ junk)]) rfl (by first | omega | exact Nat.zero_le _) dJ5_getBytes_1 (fun v9 Ψ hq => ?_) (fun _ _ hq => hq.elim)
  obtain ⟨rfl, rfl⟩ := hq
  show jT mJ5_getBytes l G _ _ _ X [im b 2 [.ref w, .int (iI 0)], ia w 0 (lb ds), jLs b ds, oa v 0 (lb cs ++ junk)] 4 [(0, .ref b), (1, .ref v), (2, .int (iI (cs.length : Int))), (3, .int (iI 0))] [.int (iI 0)] _
  refine jlv_iload_n dJ5_getBytes_4 rfl 3 rfl ?_
  refine ji_icmp_ne 28 (by decide) (by decide) dJ5_getBytes_5 (by decide) (fun h_68 => absurd h_68 (by decide)) (fun h_68 => ?_)
  refine jlv_aload_n dJ5_getBytes_8 rfl 0 rfl ?_
  refine jr_get 0 rfl rfl 0 q675 (Or.inl rfl) rfl dJ5_getBytes_9 ?_
  refine jlv_iconst (v := iI 0) dJ5_getBytes_12 rfl ?_
  refine jlv_aload_n dJ5_getBytes_13 rfl 1 rfl ?_
  refine jlv_iload_n dJ5_getBytes_14 rfl 2 rfl ?_
  refine jlv_iload_n dJ5_getBytes_15 rfl 3 rfl ?_
  refine jlv_ishl dJ5_getBytes_16 ?_
  rw [iI_shl0]
  refine jlv_aload_n dJ5_getBytes_17 rfl 0 rfl ?_
  refine jr_get 0 rfl rfl 0 q675 (Or.inl rfl) rfl dJ5_getBytes_18 ?_
  refine jr_alen 1 rfl (ty := .byte) rfl dJ5_getBytes_21 (n := iI (ds.length : Int)) (by rw [show _ = _ from lb_len ds]; rfl) ?_
  refine jr_copyb q558 q366 q365 q88 (by decide) 1 3 rfl rfl (vs := (lb ds)) (ws := (lb cs ++ junk)) (sp := 0) (dp := cs.length) (n := ds.length) (by decide) (iI_eqn (by omega) (by omega)) (iI_eqn (by omega) (by omega)) (by first | omega | (simp only [List.length_append, lb_len]; omega)) (by first | omega | (simp only [List.length_append, lb_len]; omega)) (fun q hq => jfit_at (jfit_lb hb2) (by rw [lb_len]; omega)) (Nat.le_of_ble_eq_true rfl) dJ5_getBytes_22 (Φ' := [im b 2 [.ref w, .int (iI 0)], ia w 0 (lb ds), jLs b ds, oa v 0 (lb (cs ++ ds) ++ junk.drop ds.length)]) (by rw [sb_appd hd]; rfl) ?_
  refine jlv_goto (tgt := 43) dJ5_getBytes_25 (by decide) ?_
  exact jr_vret dJ5_getBytes_43 rfl (Ψ := [oa v 0 (lb (cs ++ ds) ++ junk.drop ds.length)]) ⟨rfl, rfl⟩ (js_pickP [3] [] rfl trivial rfl)

abbrev mJ3_inflateIfNeededFor : jM := (cJ3_inflateIfNeededFor, RJ3, 2, (Option.none : Option FieldType), "inflateIfNeededFor", none)
theorem oJ3_inflateIfNeededFor : jcode yJ3_inflateIfNeededFor mJ3_inflateIfNeededFor := q533
theorem pJ3_inflateIfNeededFor : jpar yJ3_inflateIfNeededFor 1 := ⟨by decide +kernel, by decide +kernel, by decide +kernel⟩
theorem sp_ASB_inflIf (l : Launch) (G : jG) (a : Nat) (v : Nat) (m : Bool) (z : Int32) (b : Nat) (ds : List Nat) : jS l G yJ3_inflateIfNeededFor mJ3_inflateIfNeededFor 2 [.ref a, .ref b] [ow a 1 [.ref v, .int (iI 0), .int (jB m), .int z], jLs b ds] (0) (jret (fun v9 Ψ => v9 = none ∧ Ψ = [ow a 1 [.ref v, .int (iI 0), .int (jB m), .int z]])) := by
  refine jS_of (plainFor_of_name (by decide)) rfl rfl rfl (Nat.le_of_ble_eq_true rfl) (fun X => ?_)
  show jT mJ3_inflateIfNeededFor l G _ _ _ X [ow a 1 [.ref v, .int (iI 0), .int (jB m), .int z], jLs b ds] 0 [(0, .ref a), (1, .ref b)] [] _
  refine jr_g0 (fun hg0 => ?_)
  obtain ⟨gi, ⟨gea, hgea, hgea2⟩, ⟨gem, hgem, hgem2⟩, ⟨gpr, hgpr, hgpr2⟩, ⟨gic, gicad, hgic, hgic2, hgic3⟩, ⟨gcc, gccad, hgcc, hgcc2, hgcc3⟩, grf, gks⟩ := hg0
  refine jr_getsV 3 rfl q209 (v := .int (iI 1)) (gi (3, 1) (List.mem_of_getElem? (i := 0) rfl)) dJ3_inflateIfNeededFor_0 ?_
  refine ji_if_eq 21 (by decide) dJ3_inflateIfNeededFor_3 (by decide) (fun h_69 => absurd h_69 (by decide)) (fun h_69 => ?_)
  refine jlv_aload_n dJ3_inflateIfNeededFor_6 rfl 0 rfl ?_
  refine jr_get 0 rfl rfl 1 q219 (Or.inl rfl) rfl dJ3_inflateIfNeededFor_7 ?_
  refine jlv_aload_n dJ3_inflateIfNeededFor_10 rfl 1 rfl ?_
  refine jt_cls 1 rfl jLs_has ?_
  refine jr_callV [] (sp_S_coder l G b ds) (rest := [.int (iI 0)]) 0 rfl rfl rfl q534 q522 q523 q81 oJ5_coder pJ5_coder (by decide) (by decide) (Nat.le_of_ble_eq_true rfl) [2, 0, 1, 2] [2] rfl ⟨⟨_, rfl, jpers_jLs⟩, trivial⟩ (Φr := [im b 2 [], ow a 1 [.ref v, .int (iI 0), .int (jB m), .int z], jLs b ds]) rfl (by first | omega | exact Nat.zero_le _) dJ3_inflateIfNeededFor_11 (fun v9 Ψ hq => ?_) (fun _ _ hq => hq.elim)
  obtain ⟨rfl, rfl⟩ := hq
  show jT mJ3_inflateIfNeededFor l G _ _ _ X [im b 2 [], ow a 1 [.ref v, .int (iI 0), .int (jB m), .int z], jLs b ds] 14 [(0, .ref a), (1, .ref b)] [.int (iI 0), .int (iI 0)] _
  refine ji_icmp_eq 21 (by decide) (by decide) dJ3_inflateIfNeededFor_14 (by decide) (fun h_70 => ?_) (fun h_70 => absurd h_70 (by decide))
  exact jr_vret dJ3_inflateIfNeededFor_21 rfl (Ψ := [ow a 1 [.ref v, .int (iI 0), .int (jB m), .int z]]) ⟨rfl, rfl⟩ (js_pickP [1] [] rfl trivial rfl)

abbrev mJ3_putStringAt : jM := (cJ3_putStringAt, RJ3, 3, (Option.none : Option FieldType), "putStringAt", none)
theorem oJ3_putStringAt : jcode yJ3_putStringAt mJ3_putStringAt := q529
theorem pJ3_putStringAt : jpar yJ3_putStringAt 2 := ⟨by decide +kernel, by decide +kernel, by decide +kernel⟩
theorem sp_ASB_putStringAt (l : Launch) (G : jG) (a : Nat) (v : Nat) (m : Bool) (cs : List Nat) (junk : List Value) (b : Nat) (ds : List Nat) (hd : ds.length ≤ junk.length) (hm : cs.length + junk.length ≤ 2000000) : jS l G yJ3_putStringAt mJ3_putStringAt 3 [.ref a, .int (iI (cs.length : Int)), .ref b] [ow a 1 [.ref v, .int (iI 0), .int (jB m), .int (iI (cs.length : Int))], oa v 0 (lb cs ++ junk), jLs b ds] (0) (jret (fun v9 Ψ => v9 = none ∧ Ψ = [ow a 1 [.ref v, .int (iI 0), .int (jB m), .int (iI (cs.length : Int))], oa v 0 (lb (cs ++ ds) ++ junk.drop ds.length)])) := by
  refine jS_of (plainFor_of_name (by decide)) rfl rfl rfl (Nat.le_of_ble_eq_true rfl) (fun X => ?_)
  show jT mJ3_putStringAt l G _ _ _ X [ow a 1 [.ref v, .int (iI 0), .int (jB m), .int (iI (cs.length : Int))], oa v 0 (lb cs ++ junk), jLs b ds] 0 [(0, .ref a), (1, .int (iI (cs.length : Int))), (2, .ref b)] [] _
  refine jlv_aload_n dJ3_putStringAt_0 rfl 0 rfl ?_
  refine jlv_aload_n dJ3_putStringAt_1 rfl 2 rfl ?_
  refine jr_callU (x := ⟨"java/lang/AbstractStringBuilder", "inflateIfNeededFor", "(Ljava/lang/String;)V"⟩) (owner := "java/lang/AbstractStringBuilder") [.ref b] (sp_ASB_inflIf l G a v m (iI (cs.length : Int)) b ds) (rest := []) rfl 0 rfl rfl rfl q530 q4293 q532 (lw_g (lw_at lw_mx 4 rfl) rfl) q79 oJ3_inflateIfNeededFor pJ3_inflateIfNeededFor (by decide) (by decide) (Nat.le_of_ble_eq_true rfl) [0, 2, 1, 2] [2] rfl ⟨⟨_, rfl, jpers_jLs⟩, trivial⟩ (Φr := [oa v 0 (lb cs ++ junk), jLs b ds]) rfl (by first | omega | exact Nat.zero_le _) dJ3_putStringAt_2 (fun v9 Ψ hq => ?_) (fun _ _ hq => hq.elim)
  obtain ⟨rfl, rfl⟩ := hq
  show jT mJ3_putStringAt l G _ _ _ X [ow a 1 [.ref v, .int (iI 0), .int (jB m), .int (iI (cs.length : Int))], oa v 0 (lb cs ++ junk), jLs b ds] 5 [(0, .ref a), (1, .int (iI (cs.length : Int))), (2, .ref b)] [] _
  refine jlv_aload_n dJ3_putStringAt_5 rfl 2 rfl ?_
  refine jlv_aload_n dJ3_putStringAt_6 rfl 0 rfl ?_
  refine jr_get 0 rfl rfl 0 q218 (Or.inl rfl) rfl dJ3_putStringAt_7 ?_
  refine jlv_iload_n dJ3_putStringAt_10 rfl 1 rfl ?_
  refine jlv_aload_n dJ3_putStringAt_11 rfl 0 rfl ?_
  refine jr_get 0 rfl rfl 1 q219 (Or.inl rfl) rfl dJ3_putStringAt_12 ?_
  refine jt_cls 2 rfl jLs_has ?_
  refine jr_callV [.ref v, .int (iI (cs.length : Int)), .int (iI 0)] (sp_S_getBytes l G b ds v cs junk (hd) (hm)) (rest := []) 0 rfl rfl rfl q554 q555 q556 q81 oJ5_getBytes pJ5_getBytes (by decide) (by decide) (Nat.le_of_ble_eq_true rfl) [3, 2, 0, 1, 3] [3] rfl ⟨⟨_, rfl, jpers_jLs⟩, trivial⟩ (Φr := [im b 2 [], ow a 1 [.ref v, .int (iI 0), .int (jB m), .int (iI (cs.length : Int))], jLs b ds]) rfl (by first | omega | exact Nat.zero_le _) dJ3_putStringAt_15 (fun v9 Ψ hq => ?_) (fun _ _ hq => hq.elim)
  obtain ⟨rfl, rfl⟩ := hq
  show jT mJ3_putStringAt l G _ _ _ X [oa v 0 (lb (cs ++ ds) ++ junk.drop ds.length), im b 2 [], ow a 1 [.ref v, .int (iI 0), .int (jB m), .int (iI (cs.length : Int))], jLs b ds] 18 [(0, .ref a), (1, .int (iI (cs.length : Int))), (2, .ref b)] [] _
  exact jr_vret dJ3_putStringAt_18 rfl (Ψ := [ow a 1 [.ref v, .int (iI 0), .int (jB m), .int (iI (cs.length : Int))], oa v 0 (lb (cs ++ ds) ++ junk.drop ds.length)]) ⟨rfl, rfl⟩ (js_pickP [2, 0] [] rfl trivial rfl)

abbrev mJ3_append : jM := (cJ3_append, RJ3, 3, (Option.some (FieldType.object "java/lang/AbstractStringBuilder")), "append", none)
theorem oJ3_append : jcode yJ3_append mJ3_append := q461
theorem pJ3_append : jpar yJ3_append 1 := ⟨by decide +kernel, by decide +kernel, by decide +kernel⟩
theorem sp_ASB_appendS (l : Launch) (G : jG) (a : Nat) (cap : Nat) (cs : List Nat) (b : Nat) (ds : List Nat) (hcap0 : cap ≤ 150000) (hds : ds.length ≤ 100000) : jS l G yJ3_append mJ3_append 4 [.ref a, .ref b] [SB a cap cs, jLs b ds] (sbC cap (cs.length + ds.length)) (jret (fun v9 Ψ => v9 = some (.ref a) ∧ Ψ = [SB a (sbCap cap (cs.length + ds.length)) (cs ++ ds)])) := by
  refine jS_of (plainFor_of_name (by decide)) rfl rfl rfl (Nat.le_of_ble_eq_true rfl) (fun X => ?_)
  show jT mJ3_append l G _ _ _ X [SB a cap cs, jLs b ds] 0 [(0, .ref a), (1, .ref b)] [] _
  refine jt_pure 0 rfl SB_spec (fun hsp => ?_)
  show jT mJ3_append l G _ _ _ X [SB a cap cs, jLs b ds] 0 [(0, .ref a), (1, .ref b)] [] _
  have hcl := hsp.2.1
  refine jlv_aload_n dJ3_append_0 rfl 1 rfl ?_
  refine jlv_ifnonnull (tgt := 9) dJ3_append_1 (by decide) ?_
  refine jlv_aload_n dJ3_append_9 rfl 1 rfl ?_
  refine jt_cls 1 rfl jLs_has ?_
  refine jr_callV [] (sp_S_length l G b ds) (rest := []) 0 rfl rfl rfl q517 q518 q519 q81 oJ5_length pJ5_length (by decide) (by decide) (Nat.le_of_ble_eq_true rfl) [2, 0, 1, 2] [2] rfl ⟨⟨_, rfl, jpers_jLs⟩, trivial⟩ (Φr := [im b 2 [], SB a cap cs, jLs b ds]) rfl (by first | omega | exact Nat.zero_le _) dJ3_append_10 (fun v9 Ψ hq => ?_) (fun _ _ hq => hq.elim)
  obtain ⟨rfl, rfl⟩ := hq
  show jT mJ3_append l G _ _ _ X [im b 2 [], SB a cap cs, jLs b ds] 13 [(0, .ref a), (1, .ref b)] [.int (iI (ds.length : Int))] _
  refine jlv_istore_n (lv' := [(2, .int (iI (ds.length : Int))), (0, .ref a), (1, .ref b)]) dJ3_append_13 rfl (by decide) rfl ?_
  refine jlv_aload_n dJ3_append_14 rfl 1 rfl ?_
  refine jt_pickP [1, 0, 2] [] rfl trivial (Φ' := [SB a cap cs, im b 2 [], jLs b ds]) rfl ?_
  refine jt_open ?_
  rintro ⟨m, v, junk⟩ ⟨hb, hcap, hmx, hj⟩
  try dsimp only at hb hcap hmx hj
  show jT mJ3_append l G _ _ _ X [ow a 1 [.ref v, .int (iI 0), .int (jB m), .int (iI (cs.length : Int))], oa v 0 (lb cs ++ junk), im b 2 [], jLs b ds] 15 [(2, .int (iI (ds.length : Int))), (0, .ref a), (1, .ref b)] [.ref a] _
  refine jlv_aload_n dJ3_append_15 rfl 1 rfl ?_
  refine jr_get 0 rfl rfl 3 q222 (Or.inl rfl) rfl dJ3_append_16 ?_
  refine jlv_iload_n dJ3_append_19 rfl 0 rfl ?_
  refine ji_iadd ((cs.length : Int) + (ds.length : Int)) (by omega) dJ3_append_20 ?_
  refine jt_pickP [0, 1, 2, 3] [] rfl trivial (Φ' := [ow a 1 [.ref v, .int (iI 0), .int (jB m), .int (iI (cs.length : Int))], oa v 0 (lb cs ++ junk), im b 2 [], jLs b ds]) rfl ?_
  refine jt_fold (A := [ow a 1 [.ref v, .int (iI 0), .int (jB m), .int (iI (cs.length : Int))], oa v 0 (lb cs ++ junk)]) (P := SB a cap cs) (SB_fold hb hcap hmx hj rfl rfl) ?_
  show jT mJ3_append l G _ _ _ X [SB a cap cs, im b 2 [], jLs b ds] 21 [(2, .int (iI (ds.length : Int))), (0, .ref a), (1, .ref b)] [.int (iI ((cs.length : Int) + (ds.length : Int))), .ref a] _
  refine jt_cls 0 rfl SB_has ?_
  refine jr_callU (x := ⟨"java/lang/AbstractStringBuilder", "ensureCapacityInternal", "(I)V"⟩) (owner := "java/lang/AbstractStringBuilder") [.int (iI ((cs.length : Int) + (ds.length : Int)))] (sp_ASB_ensure l G a cap cs (cs.length + ds.length) (by omega) (by omega)) (rest := []) rfl 0 rfl rfl rfl q466 q4290 q468 (lw_g (lw_at lw_mx 1 rfl) rfl) q79 oJ3_ensureCapacityInternal pJ3_ensureCapacityInternal (by decide) (by decide) (Nat.le_of_ble_eq_true rfl) [1, 0, 2, 3] [] rfl trivial (Φr := [im a 1 [], im b 2 [], jLs b ds]) rfl (by first | omega | exact Nat.zero_le _) dJ3_append_21 (fun v9 Ψ hq => ?_) (fun _ _ hq => hq.elim)
  obtain ⟨rfl, rfl⟩ := hq
  show jT mJ3_append l G _ _ _ X [SB a (sbCap cap (cs.length + ds.length)) cs, im a 1 [], im b 2 [], jLs b ds] 24 [(2, .int (iI (ds.length : Int))), (0, .ref a), (1, .ref b)] [] _
  have hge := sbCap_ge cap (cs.length + ds.length)
  refine jt_pure 3 rfl jLs_lt (fun hls => ?_)
  show jT mJ3_append l G _ _ _ X [SB a (sbCap cap (cs.length + ds.length)) cs, im a 1 [], im b 2 [], jLs b ds] 24 [(2, .int (iI (ds.length : Int))), (0, .ref a), (1, .ref b)] [] _
  refine jlv_aload_n dJ3_append_24 rfl 1 rfl ?_
  refine jt_open ?_
  rintro ⟨m2, v2, junk2⟩ ⟨hb2, hcap2, hmx2, hj2⟩
  try dsimp only at hb2 hcap2 hmx2 hj2
  show jT mJ3_append l G _ _ _ X [ow a 1 [.ref v2, .int (iI 0), .int (jB m2), .int (iI (cs.length : Int))], oa v2 0 (lb cs ++ junk2), im a 1 [], im b 2 [], jLs b ds] 25 [(2, .int (iI (ds.length : Int))), (0, .ref a), (1, .ref b)] [.ref a] _
  refine jlv_aload_n dJ3_append_25 rfl 1 rfl ?_
  refine jr_get 0 rfl rfl 3 q222 (Or.inl rfl) rfl dJ3_append_26 ?_
  refine jlv_aload_n dJ3_append_29 rfl 2 rfl ?_
  refine jr_callU (x := ⟨"java/lang/AbstractStringBuilder", "putStringAt", "(ILjava/lang/String;)V"⟩) (owner := "java/lang/AbstractStringBuilder") [.int (iI (cs.length : Int)), .ref b] (sp_ASB_putStringAt l G a v2 m2 cs junk2 b ds (by omega) (by omega)) (rest := []) rfl 0 rfl rfl rfl q526 q4292 q528 (lw_g (lw_at lw_mx 3 rfl) rfl) q79 oJ3_putStringAt pJ3_putStringAt (by decide) (by decide) (Nat.le_of_ble_eq_true rfl) [0, 1, 4, 2, 3, 4] [4] rfl ⟨⟨_, rfl, jpers_jLs⟩, trivial⟩ (Φr := [im a 1 [], im b 2 [], jLs b ds]) rfl (by first | omega | exact Nat.zero_le _) dJ3_append_30 (fun v9 Ψ hq => ?_) (fun _ _ hq => hq.elim)
  obtain ⟨rfl, rfl⟩ := hq
  show jT mJ3_append l G _ _ _ X [ow a 1 [.ref v2, .int (iI 0), .int (jB m2), .int (iI (cs.length : Int))], oa v2 0 (lb (cs ++ ds) ++ junk2.drop ds.length), im a 1 [], im b 2 [], jLs b ds] 33 [(2, .int (iI (ds.length : Int))), (0, .ref a), (1, .ref b)] [] _
  refine jlv_aload_n dJ3_append_33 rfl 1 rfl ?_
  refine jlv_dup dJ3_append_34 rfl ?_
  refine jr_get 0 rfl rfl 3 q222 (Or.inl rfl) rfl dJ3_append_35 ?_
  refine jlv_iload_n dJ3_append_38 rfl 0 rfl ?_
  refine ji_iadd ((cs.length : Int) + (ds.length : Int)) (by omega) dJ3_append_39 ?_
  refine jr_put 0 rfl rfl 3 q222 (Or.inl rfl) rfl rfl rfl rfl rfl dJ3_append_40 (Φ' := [ow a 1 [.ref v2, .int (iI 0), .int (jB m2), .int (iI ((cs.length : Int) + (ds.length : Int)))], oa v2 0 (lb (cs ++ ds) ++ junk2.drop ds.length), im a 1 [], im b 2 [], jLs b ds]) rfl ?_
  refine jlv_aload_n dJ3_append_43 rfl 1 rfl ?_
  refine jt_pickP [0, 1, 2, 3, 4] [] rfl trivial (Φ' := [ow a 1 [.ref v2, .int (iI 0), .int (jB m2), .int (iI ((cs.length : Int) + (ds.length : Int)))], oa v2 0 (lb (cs ++ ds) ++ junk2.drop ds.length), im a 1 [], im b 2 [], jLs b ds]) rfl ?_
  refine jt_fold (A := [ow a 1 [.ref v2, .int (iI 0), .int (jB m2), .int (iI ((cs.length : Int) + (ds.length : Int)))], oa v2 0 (lb (cs ++ ds) ++ junk2.drop ds.length)]) (P := SB a (sbCap cap (cs.length + ds.length)) (cs ++ ds)) (SB_fold (sb_all2 hb2 hls.1) (junk := junk2.drop ds.length) (by rw [List.length_append, List.length_drop]; omega) hmx2 (jfit_drop _ hj2) (by rw [List.length_append]; omega) rfl) ?_
  show jT mJ3_append l G _ _ _ X [SB a (sbCap cap (cs.length + ds.length)) (cs ++ ds), im a 1 [], im b 2 [], jLs b ds] 44 [(2, .int (iI (ds.length : Int))), (0, .ref a), (1, .ref b)] [.ref a] _
  exact jr_aret dJ3_append_44 rfl (Or.inl ⟨_, rfl⟩) (Or.inr ⟨_, rfl⟩) (Ψ := [SB a (sbCap cap (cs.length + ds.length)) (cs ++ ds)]) ⟨rfl, rfl⟩ (js_pickP [0] [] rfl trivial rfl)

abbrev mJ4_append : jM := (cJ4_append, RJ4, 2, (Option.some (FieldType.object "java/lang/StringBuilder")), "append", none)
theorem oJ4_append : jcode yJ4_append mJ4_append := q458
theorem pJ4_append : jpar yJ4_append 1 := ⟨by decide +kernel, by decide +kernel, by decide +kernel⟩
theorem sp_SB_appendS (l : Launch) (G : jG) (a : Nat) (cap : Nat) (cs : List Nat) (b : Nat) (ds : List Nat) (hcap0 : cap ≤ 150000) (hds : ds.length ≤ 100000) : jS l G yJ4_append mJ4_append 5 [.ref a, .ref b] [SB a cap cs, jLs b ds] (sbC cap (cs.length + ds.length)) (jret (fun v9 Ψ => v9 = some (.ref a) ∧ Ψ = [SB a (sbCap cap (cs.length + ds.length)) (cs ++ ds)])) := by
  refine jS_of (plainFor_of_name (by decide)) rfl rfl rfl (Nat.le_of_ble_eq_true rfl) (fun X => ?_)
  show jT mJ4_append l G _ _ _ X [SB a cap cs, jLs b ds] 0 [(0, .ref a), (1, .ref b)] [] _
  refine jlv_aload_n dJ4_append_0 rfl 0 rfl ?_
  refine jlv_aload_n dJ4_append_1 rfl 1 rfl ?_
  refine jt_cls 0 rfl SB_has ?_
  refine jr_callSup [.ref b] (sp_ASB_appendS l G a cap cs b ds (hcap0) (hds)) (rest := []) (by decide) rfl 0 rfl rfl q459 q4288 q460 q231 q79 oJ3_append pJ3_append (by decide) (by decide) (Nat.le_of_ble_eq_true rfl) [1, 2, 0, 2] [2] rfl ⟨⟨_, rfl, jpers_jLs⟩, trivial⟩ (Φr := [im a 1 [], jLs b ds]) rfl (by first | omega | exact Nat.zero_le _) dJ4_append_2 (fun v9 Ψ hq => ?_) (fun _ _ hq => hq.elim)
  obtain ⟨rfl, rfl⟩ := hq
  show jT mJ4_append l G _ _ _ X [SB a (sbCap cap (cs.length + ds.length)) (cs ++ ds), im a 1 [], jLs b ds] 5 [(0, .ref a), (1, .ref b)] [.ref a] _
  refine jlv_pop dJ4_append_5 rfl ?_
  refine jlv_aload_n dJ4_append_6 rfl 0 rfl ?_
  exact jr_aret dJ4_append_7 rfl (Or.inl ⟨_, rfl⟩) (Or.inr ⟨_, rfl⟩) (Ψ := [SB a (sbCap cap (cs.length + ds.length)) (cs ++ ds)]) ⟨rfl, rfl⟩ (js_pickP [0] [] rfl trivial rfl)

