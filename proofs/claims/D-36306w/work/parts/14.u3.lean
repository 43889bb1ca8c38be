set_option maxRecDepth 100000
/-- a String with a letter from 256 on -/
def jUs (a : Nat) (cs : List Nat) : jP := jbun (fun v : Nat => (∀ c ∈ cs, c < 65536) ∧ cs.length ≤ 400000 ∧ ∃ c ∈ cs, 256 ≤ c) (fun v => [im a 2 [.ref v, .int (iI 1)], ia v 0 (lu cs)])
theorem jUs_fold {a v : Nat} {cs : List Nat} {L : List Value} (h1 : ∀ c ∈ cs, c < 65536) (h2 : cs.length ≤ 400000) (h3 : ∃ c ∈ cs, 256 ≤ c) (hL : L = lu cs) : ∀ h, jsl [im a 2 [.ref v, .int (iI 1)], ia v 0 L] h → jUs a cs h := fun h hh => by
  subst hL
  exact ⟨v, ⟨h1, h2, h3⟩, hh⟩
theorem jpers_jUs {a : Nat} {cs : List Nat} : jpers (jUs a cs) := jpers_bun fun v _ P hP => by
  rcases List.mem_cons.mp hP with e | e
  · rw [e]; exact jpers_A
  · rw [List.mem_singleton.mp e]; exact jpers_A
theorem jUs_has {a : Nat} {cs : List Nat} : jhas (jUs a cs) a 2 := jhas_bun fun x _ => ⟨0, true, _, rfl⟩
/-- a String -/
def jOs (a : Nat) (cs : List Nat) : jP := if lt256 cs then jLs a cs else jUs a cs
theorem jOs_l {a : Nat} {cs : List Nat} (h : lt256 cs = true) : jOs a cs = jLs a cs := by unfold jOs; rw [if_pos h]
theorem jOs_u {a : Nat} {cs : List Nat} (h : lt256 cs = false) : jOs a cs = jUs a cs := by unfold jOs; rw [if_neg (by rw [h]; decide)]
theorem jpers_jOs {a : Nat} {cs : List Nat} : jpers (jOs a cs) := by
  unfold jOs; split
  · exact jpers_jLs
  · exact jpers_jUs
theorem jOs_has {a : Nat} {cs : List Nat} : jhas (jOs a cs) a 2 := by
  unfold jOs; split
  · exact jLs_has
  · exact jUs_has
theorem sp_S_initASBU (l : Launch) (G : jG) (s : Nat) (a : Nat) (v : Nat) (cs : List Nat) (junk : List Value) (hb : ∀ c ∈ cs, c < 65536) (hj : jfit junk) (hl : 2 * cs.length + junk.length ≤ 1000000) : jS l G yJ5_init_2 mJ5_init_2 4 [.ref s, .ref a, .null] [ow s 2 [.null, .int (iI 0), .int (iI 0), .int (iI 0)], ow a 1 [.ref v, .int (iI 1), .int (jB false), .int (iI (cs.length : Int))], oa v 0 (lu cs ++ junk)] ((2 * cs.length + 7) / 4) (jret (fun v9 Ψ => ∃ w : Nat, v9 = none ∧ Ψ = [ow s 2 [.ref w, .int (iI 1), .int (iI 0), .int (iI 0)], oa w 0 (lu cs), ow a 1 [.ref v, .int (iI 1), .int (jB false), .int (iI (cs.length : Int))], oa v 0 (lu cs ++ junk)])) := by
  refine jS_of (plainFor_of_name (by decide)) rfl rfl rfl (Nat.le_of_ble_eq_true rfl) (fun X => ?_)
  show jT mJ5_init_2 l G _ _ _ X [ow s 2 [.null, .int (iI 0), .int (iI 0), .int (iI 0)], ow a 1 [.ref v, .int (iI 1), .int (jB false), .int (iI (cs.length : Int))], oa v 0 (lu cs ++ junk)] 0 [(0, .ref s), (1, .ref a), (2, .null)] [] _
  have hul := lu_len cs
  refine jr_g0 (fun hg0 => ?_)
  obtain ⟨gi, ⟨gea, hgea, hgea2⟩, ⟨gem, hgem, hgem2⟩, ⟨gpr, hgpr, hgpr2⟩, ⟨gic, gicad, hgic, hgic2, hgic3⟩, ⟨gcc, gccad, hgcc, hgcc2, hgcc3⟩, grf, gks⟩ := hg0
  refine jlv_aload_n dJ5_init_2_0 rfl 0 rfl ?_
  refine jr_objInit q598 q161 q162 (by decide) (Nat.le_of_ble_eq_true rfl) dJ5_init_2_1 ?_
  refine jlv_aload_n dJ5_init_2_4 rfl 1 rfl ?_
  refine jr_callU (x := ⟨"java/lang/AbstractStringBuilder", "getValue", "()[B"⟩) (owner := "java/lang/AbstractStringBuilder") [] (sp_ASB_getValue l G a v (iI 1) (jB false) (iI (cs.length : Int))) (rest := []) rfl 1 rfl rfl rfl q599 q601 q600 q602 q79 oJ3_getValue pJ3_getValue (by decide) (by decide) (Nat.le_of_ble_eq_true rfl) [1, 0, 2] [] rfl trivial (Φr := [ow s 2 [.null, .int (iI 0), .int (iI 0), .int (iI 0)], oa v 0 (lu cs ++ junk)]) rfl (by first | omega | exact Nat.zero_le _) dJ5_init_2_5 (fun v9 Ψ hq => ?_) (fun _ _ hq => hq.elim)
  obtain ⟨rfl, rfl⟩ := hq
  show jT mJ5_init_2 l G _ _ _ X [ow a 1 [.ref v, .int (iI 1), .int (jB false), .int (iI (cs.length : Int))], ow s 2 [.null, .int (iI 0), .int (iI 0), .int (iI 0)], oa v 0 (lu cs ++ junk)] 8 [(0, .ref s), (1, .ref a), (2, .null)] [.ref v] _
  refine jlv_astore_n (lv' := [(3, .ref v), (0, .ref s), (1, .ref a), (2, .null)]) dJ5_init_2_8 rfl (by decide) rfl ?_
  refine jlv_aload_n dJ5_init_2_9 rfl 2 rfl ?_
  refine jr_callO (x := ⟨"java/lang/AbstractStringBuilder", "length", "()I"⟩) (owner := "java/lang/AbstractStringBuilder") [] (sp_SB_lengthR l G a v (iI 1) (jB false) (iI (cs.length : Int))) (rest := []) rfl 0 rfl rfl q605 q611 q604 q606 q608 q607 q80 oJ4_length ⟨by decide +kernel, by decide +kernel, by decide +kernel⟩ (by decide) (by decide) (Nat.le_of_ble_eq_true rfl) [0, 1, 2] [] rfl trivial (Φr := [ow s 2 [.null, .int (iI 0), .int (iI 0), .int (iI 0)], oa v 0 (lu cs ++ junk)]) rfl (by first | omega | exact Nat.zero_le _) dJ5_init_2_10 (fun v9 Ψ hq => ?_) (fun _ _ hq => hq.elim)
  obtain ⟨rfl, rfl⟩ := hq
  show jT mJ5_init_2 l G _ _ _ X [ow a 1 [.ref v, .int (iI 1), .int (jB false), .int (iI (cs.length : Int))], ow s 2 [.null, .int (iI 0), .int (iI 0), .int (iI 0)], oa v 0 (lu cs ++ junk)] 13 [(3, .ref v), (0, .ref s), (1, .ref a), (2, .null)] [.int (iI (cs.length : Int))] _
  refine jlv_istore (lv' := [(4, .int (iI (cs.length : Int))), (3, .ref v), (0, .ref s), (1, .ref a), (2, .null)]) dJ5_init_2_13 (by decide) rfl ?_
  refine jlv_aload_n dJ5_init_2_15 rfl 3 rfl ?_
  refine jr_callU (x := ⟨"java/lang/AbstractStringBuilder", "isLatin1", "()Z"⟩) (owner := "java/lang/AbstractStringBuilder") [] (sp_ASB_isLatin1U l G a v (jB false) (iI (cs.length : Int))) (rest := []) rfl 0 rfl rfl rfl q612 q488 q487 q489 q79 oJ3_isLatin1 pJ3_isLatin1 (by decide) (by decide) (Nat.le_of_ble_eq_true rfl) [0, 1, 2] [] rfl trivial (Φr := [ow s 2 [.null, .int (iI 0), .int (iI 0), .int (iI 0)], oa v 0 (lu cs ++ junk)]) rfl (by first | omega | exact Nat.zero_le _) dJ5_init_2_16 (fun v9 Ψ hq => ?_) (fun _ _ hq => hq.elim)
  obtain ⟨rfl, rfl⟩ := hq
  show jT mJ5_init_2 l G _ _ _ X [ow a 1 [.ref v, .int (iI 1), .int (jB false), .int (iI (cs.length : Int))], ow s 2 [.null, .int (iI 0), .int (iI 0), .int (iI 0)], oa v 0 (lu cs ++ junk)] 19 [(4, .int (iI (cs.length : Int))), (3, .ref v), (0, .ref s), (1, .ref a), (2, .null)] [.int (iI 0)] _
  refine ji_if_eq 41 (by decide) dJ5_init_2_19 (by decide) (fun h_104 => ?_) (fun h_104 => absurd h_104 (by decide))
  refine jr_getsV 3 rfl q525 (v := .int (iI 1)) (gi (3, 1) (List.mem_of_getElem? (i := 0) rfl)) dJ5_init_2_41 ?_
  refine ji_if_eq 79 (by decide) dJ5_init_2_44 (by decide) (fun h_105 => absurd h_105 (by decide)) (fun h_105 => ?_)
  refine jlv_aload_n dJ5_init_2_47 rfl 3 rfl ?_
  refine jr_get 0 rfl rfl 2 q221 (Or.inl rfl) rfl dJ5_init_2_48 ?_
  refine ji_bz_eq 79 dJ5_init_2_51 (by decide) (fun h_106 => ?_) (fun h_106 => absurd h_106 (by decide))
  refine jlv_aload_n dJ5_init_2_79 rfl 2 rfl ?_
  refine jlv_iconst (v := iI 1) dJ5_init_2_80 rfl ?_
  refine jr_putF 1 rfl rfl 1 q676 rfl rfl rfl rfl rfl rfl rfl dJ5_init_2_81 (Φ' := [ow a 1 [.ref v, .int (iI 1), .int (jB false), .int (iI (cs.length : Int))], ow s 2 [.null, .int (iI 1), .int (iI 0), .int (iI 0)], oa v 0 (lu cs ++ junk)]) rfl ?_
  refine jlv_aload_n dJ5_init_2_84 rfl 2 rfl ?_
  refine jlv_aload_n dJ5_init_2_85 rfl 1 rfl ?_
  refine jlv_iconst (v := iI 0) dJ5_init_2_86 rfl ?_
  refine jlv_iload dJ5_init_2_87 0 rfl ?_
  refine jlv_iconst (v := iI 1) dJ5_init_2_89 rfl ?_
  refine jlv_ishl dJ5_init_2_90 ?_
  rw [iI_shl1 cs.length]
  refine jr_callS [.ref v, .int (iI 0), .int (iI ((2 * cs.length : Nat) : Int))] (sp_copyR l G false v (lu cs ++ junk) 0 (2 * cs.length) (Nat.zero_le _) (by rw [List.length_append, lu_len]; omega) (by rw [List.length_append, lu_len]; omega) (jfit_app (jfit_lu hb) hj)) (rest := [.ref s]) q613 q614 q86 oJ9_copyOfRange pJ9_copyOfRange (by decide) (by decide) (Nat.le_of_ble_eq_true rfl) [2, 0, 1] [] rfl trivial (Φr := [ow a 1 [.ref v, .int (iI 1), .int (jB false), .int (iI (cs.length : Int))], ow s 2 [.null, .int (iI 1), .int (iI 0), .int (iI 0)]]) rfl (by first | omega | exact Nat.zero_le _) dJ5_init_2_91 (fun v9 Ψ hq => ?_) (fun _ _ hq => hq.elim)
  obtain ⟨w, rfl, rfl⟩ := hq
  show jT mJ5_init_2 l G _ _ _ X [oa v 0 (lu cs ++ junk), oa w 0 (((lu cs ++ junk).drop 0).take ((2 * cs.length) - 0)), ow a 1 [.ref v, .int (iI 1), .int (jB false), .int (iI (cs.length : Int))], ow s 2 [.null, .int (iI 1), .int (iI 0), .int (iI 0)]] 94 [(4, .int (iI (cs.length : Int))), (3, .ref v), (0, .ref s), (1, .ref a), (2, .null)] [.ref w, .ref s] _
  refine jr_putF 3 rfl rfl 0 q675 rfl rfl rfl rfl rfl rfl rfl dJ5_init_2_94 (Φ' := [oa v 0 (lu cs ++ junk), oa w 0 (((lu cs ++ junk).drop 0).take ((2 * cs.length) - 0)), ow a 1 [.ref v, .int (iI 1), .int (jB false), .int (iI (cs.length : Int))], ow s 2 [.ref w, .int (iI 1), .int (iI 0), .int (iI 0)]]) rfl ?_
  refine jt_same 1 (P := oa w 0 (((lu cs ++ junk).drop 0).take (2 * cs.length - 0))) (P' := oa w 0 (lu cs)) rfl (by rw [List.drop_zero, Nat.sub_zero, List.take_append_of_le_length (by rw [lu_len]; exact Nat.le_refl _), List.take_of_length_le (by rw [lu_len]; exact Nat.le_refl _)]) (Φ' := [oa v 0 (lu cs ++ junk), oa w 0 (lu cs), ow a 1 [.ref v, .int (iI 1), .int (jB false), .int (iI (cs.length : Int))], ow s 2 [.ref w, .int (iI 1), .int (iI 0), .int (iI 0)]]) rfl ?_
  exact jr_vret dJ5_init_2_97 rfl (Ψ := [ow s 2 [.ref w, .int (iI 1), .int (iI 0), .int (iI 0)], oa w 0 (lu cs), ow a 1 [.ref v, .int (iI 1), .int (jB false), .int (iI (cs.length : Int))], oa v 0 (lu cs ++ junk)]) ⟨w, rfl, rfl⟩ (js_pickP [3, 1, 2, 0] [] rfl trivial rfl)

theorem sp_S_initASBL (l : Launch) (G : jG) (s : Nat) (a : Nat) (v : Nat) (cs : List Nat) (junk : List Value) (hb : ∀ c ∈ cs, c < 256) (hj : jfit junk) (hl : cs.length + junk.length ≤ 1000000) : jS l G yJ5_init_2 mJ5_init_2 4 [.ref s, .ref a, .null] [ow s 2 [.null, .int (iI 0), .int (iI 0), .int (iI 0)], ow a 1 [.ref v, .int (iI 0), .int (jB false), .int (iI (cs.length : Int))], oa v 0 (lb cs ++ junk)] ((cs.length + 7) / 4) (jret (fun v9 Ψ => ∃ w : Nat, v9 = none ∧ Ψ = [ow s 2 [.ref w, .int (iI 0), .int (iI 0), .int (iI 0)], oa w 0 (lb cs), ow a 1 [.ref v, .int (iI 0), .int (jB false), .int (iI (cs.length : Int))], oa v 0 (lb cs ++ junk)])) := by
  refine jS_of (plainFor_of_name (by decide)) rfl rfl rfl (Nat.le_of_ble_eq_true rfl) (fun X => ?_)
  show jT mJ5_init_2 l G _ _ _ X [ow s 2 [.null, .int (iI 0), .int (iI 0), .int (iI 0)], ow a 1 [.ref v, .int (iI 0), .int (jB false), .int (iI (cs.length : Int))], oa v 0 (lb cs ++ junk)] 0 [(0, .ref s), (1, .ref a), (2, .null)] [] _
  refine jr_g0 (fun hg0 => ?_)
  obtain ⟨gi, ⟨gea, hgea, hgea2⟩, ⟨gem, hgem, hgem2⟩, ⟨gpr, hgpr, hgpr2⟩, ⟨gic, gicad, hgic, hgic2, hgic3⟩, ⟨gcc, gccad, hgcc, hgcc2, hgcc3⟩, grf, gks⟩ := hg0
  refine jlv_aload_n dJ5_init_2_0 rfl 0 rfl ?_
  refine jr_objInit q598 q161 q162 (by decide) (Nat.le_of_ble_eq_true rfl) dJ5_init_2_1 ?_
  refine jlv_aload_n dJ5_init_2_4 rfl 1 rfl ?_
  refine jr_callU (x := ⟨"java/lang/AbstractStringBuilder", "getValue", "()[B"⟩) (owner := "java/lang/AbstractStringBuilder") [] (sp_ASB_getValue l G a v (iI 0) (jB false) (iI (cs.length : Int))) (rest := []) rfl 1 rfl rfl rfl q599 q601 q600 q602 q79 oJ3_getValue pJ3_getValue (by decide) (by decide) (Nat.le_of_ble_eq_true rfl) [1, 0, 2] [] rfl trivial (Φr := [ow s 2 [.null, .int (iI 0), .int (iI 0), .int (iI 0)], oa v 0 (lb cs ++ junk)]) rfl (by first | omega | exact Nat.zero_le _) dJ5_init_2_5 (fun v9 Ψ hq => ?_) (fun _ _ hq => hq.elim)
  obtain ⟨rfl, rfl⟩ := hq
  show jT mJ5_init_2 l G _ _ _ X [ow a 1 [.ref v, .int (iI 0), .int (jB false), .int (iI (cs.length : Int))], ow s 2 [.null, .int (iI 0), .int (iI 0), .int (iI 0)], oa v 0 (lb cs ++ junk)] 8 [(0, .ref s), (1, .ref a), (2, .null)] [.ref v] _
  refine jlv_astore_n (lv' := [(3, .ref v), (0, .ref s), (1, .ref a), (2, .null)]) dJ5_init_2_8 rfl (by decide) rfl ?_
  refine jlv_aload_n dJ5_init_2_9 rfl 2 rfl ?_
  refine jr_callO (x := ⟨"java/lang/AbstractStringBuilder", "length", "()I"⟩) (owner := "java/lang/AbstractStringBuilder") [] (sp_SB_lengthR l G a v (iI 0) (jB false) (iI (cs.length : Int))) (rest := []) rfl 0 rfl rfl q605 q611 q604 q606 q608 q607 q80 oJ4_length ⟨by decide +kernel, by decide +kernel, by decide +kernel⟩ (by decide) (by decide) (Nat.le_of_ble_eq_true rfl) [0, 1, 2] [] rfl trivial (Φr := [ow s 2 [.null, .int (iI 0), .int (iI 0), .int (iI 0)], oa v 0 (lb cs ++ junk)]) rfl (by first | omega | exact Nat.zero_le _) dJ5_init_2_10 (fun v9 Ψ hq => ?_) (fun _ _ hq => hq.elim)
  obtain ⟨rfl, rfl⟩ := hq
  show jT mJ5_init_2 l G _ _ _ X [ow a 1 [.ref v, .int (iI 0), .int (jB false), .int (iI (cs.length : Int))], ow s 2 [.null, .int (iI 0), .int (iI 0), .int (iI 0)], oa v 0 (lb cs ++ junk)] 13 [(3, .ref v), (0, .ref s), (1, .ref a), (2, .null)] [.int (iI (cs.length : Int))] _
  refine jlv_istore (lv' := [(4, .int (iI (cs.length : Int))), (3, .ref v), (0, .ref s), (1, .ref a), (2, .null)]) dJ5_init_2_13 (by decide) rfl ?_
  refine jlv_aload_n dJ5_init_2_15 rfl 3 rfl ?_
  refine jr_callU (x := ⟨"java/lang/AbstractStringBuilder", "isLatin1", "()Z"⟩) (owner := "java/lang/AbstractStringBuilder") [] (sp_ASB_isLatin1R l G a v (jB false) (iI (cs.length : Int))) (rest := []) rfl 0 rfl rfl rfl q612 q488 q487 q489 q79 oJ3_isLatin1 pJ3_isLatin1 (by decide) (by decide) (Nat.le_of_ble_eq_true rfl) [0, 1, 2] [] rfl trivial (Φr := [ow s 2 [.null, .int (iI 0), .int (iI 0), .int (iI 0)], oa v 0 (lb cs ++ junk)]) rfl (by first | omega | exact Nat.zero_le _) dJ5_init_2_16 (fun v9 Ψ hq => ?_) (fun _ _ hq => hq.elim)
  obtain ⟨rfl, rfl⟩ := hq
  show jT mJ5_init_2 l G _ _ _ X [ow a 1 [.ref v, .int (iI 0), .int (jB false), .int (iI (cs.length : Int))], ow s 2 [.null, .int (iI 0), .int (iI 0), .int (iI 0)], oa v 0 (lb cs ++ junk)] 19 [(4, .int (iI (cs.length : Int))), (3, .ref v), (0, .ref s), (1, .ref a), (2, .null)] [.int (iI 1)] _
  refine ji_if_eq 41 (by decide) dJ5_init_2_19 (by decide) (fun h_107 => absurd h_107 (by decide)) (fun h_107 => ?_)
  refine jlv_aload_n dJ5_init_2_22 rfl 2 rfl ?_
  refine jlv_iconst (v := iI 0) dJ5_init_2_23 rfl ?_
  refine jr_putF 1 rfl rfl 1 q676 rfl rfl rfl rfl rfl rfl rfl dJ5_init_2_24 (Φ' := [ow a 1 [.ref v, .int (iI 0), .int (jB false), .int (iI (cs.length : Int))], ow s 2 [.null, .int (iI 0), .int (iI 0), .int (iI 0)], oa v 0 (lb cs ++ junk)]) rfl ?_
  refine jlv_aload_n dJ5_init_2_27 rfl 2 rfl ?_
  refine jlv_aload_n dJ5_init_2_28 rfl 1 rfl ?_
  refine jlv_iconst (v := iI 0) dJ5_init_2_29 rfl ?_
  refine jlv_iload dJ5_init_2_30 0 rfl ?_
  refine jr_callS [.ref v, .int (iI 0), .int (iI (cs.length : Int))] (sp_copyR l G false v (lb cs ++ junk) 0 cs.length (Nat.zero_le _) (by rw [sb_len]; omega) (by rw [sb_len]; omega) (jfit_app (jfit_lb hb) hj)) (rest := [.ref s]) q613 q614 q86 oJ9_copyOfRange pJ9_copyOfRange (by decide) (by decide) (Nat.le_of_ble_eq_true rfl) [2, 0, 1] [] rfl trivial (Φr := [ow a 1 [.ref v, .int (iI 0), .int (jB false), .int (iI (cs.length : Int))], ow s 2 [.null, .int (iI 0), .int (iI 0), .int (iI 0)]]) rfl (by first | omega | exact Nat.zero_le _) dJ5_init_2_32 (fun v9 Ψ hq => ?_) (fun _ _ hq => hq.elim)
  obtain ⟨w, rfl, rfl⟩ := hq
  show jT mJ5_init_2 l G _ _ _ X [oa v 0 (lb cs ++ junk), oa w 0 (((lb cs ++ junk).drop 0).take (cs.length - 0)), ow a 1 [.ref v, .int (iI 0), .int (jB false), .int (iI (cs.length : Int))], ow s 2 [.null, .int (iI 0), .int (iI 0), .int (iI 0)]] 35 [(4, .int (iI (cs.length : Int))), (3, .ref v), (0, .ref s), (1, .ref a), (2, .null)] [.ref w, .ref s] _
  refine jr_putF 3 rfl rfl 0 q675 rfl rfl rfl rfl rfl rfl rfl dJ5_init_2_35 (Φ' := [oa v 0 (lb cs ++ junk), oa w 0 (((lb cs ++ junk).drop 0).take (cs.length - 0)), ow a 1 [.ref v, .int (iI 0), .int (jB false), .int (iI (cs.length : Int))], ow s 2 [.ref w, .int (iI 0), .int (iI 0), .int (iI 0)]]) rfl ?_
  refine jlv_goto (tgt := 97) dJ5_init_2_38 (by decide) ?_
  refine jt_same 1 (P := oa w 0 (((lb cs ++ junk).drop 0).take (cs.length - 0))) (P' := oa w 0 (lb cs)) rfl (by rw [List.drop_zero, Nat.sub_zero, List.take_append_of_le_length (by rw [lb_len]; exact Nat.le_refl _), List.take_of_length_le (by rw [lb_len]; exact Nat.le_refl _)]) (Φ' := [oa v 0 (lb cs ++ junk), oa w 0 (lb cs), ow a 1 [.ref v, .int (iI 0), .int (jB false), .int (iI (cs.length : Int))], ow s 2 [.ref w, .int (iI 0), .int (iI 0), .int (iI 0)]]) rfl ?_
  exact jr_vret dJ5_init_2_97 rfl (Ψ := [ow s 2 [.ref w, .int (iI 0), .int (iI 0), .int (iI 0)], oa w 0 (lb cs), ow a 1 [.ref v, .int (iI 0), .int (jB false), .int (iI (cs.length : Int))], oa v 0 (lb cs ++ junk)]) ⟨w, rfl, rfl⟩ (js_pickP [3, 1, 2, 0] [] rfl trivial rfl)

theorem sp_S_initSBU (l : Launch) (G : jG) (s : Nat) (a : Nat) (v : Nat) (cs : List Nat) (junk : List Value) (hb : ∀ c ∈ cs, c < 65536) (hj : jfit junk) (hl : 2 * cs.length + junk.length ≤ 1000000) : jS l G yJ5_init mJ5_init 5 [.ref s, .ref a] [ow s 2 [.null, .int (iI 0), .int (iI 0), .int (iI 0)], ow a 1 [.ref v, .int (iI 1), .int (jB false), .int (iI (cs.length : Int))], oa v 0 (lu cs ++ junk)] ((2 * cs.length + 7) / 4) (jret (fun v9 Ψ => ∃ w : Nat, v9 = none ∧ Ψ = [ow s 2 [.ref w, .int (iI 1), .int (iI 0), .int (iI 0)], oa w 0 (lu cs), ow a 1 [.ref v, .int (iI 1), .int (jB false), .int (iI (cs.length : Int))], oa v 0 (lu cs ++ junk)])) := by
  refine jS_of (plainFor_of_name (by decide)) rfl rfl rfl (Nat.le_of_ble_eq_true rfl) (fun X => ?_)
  show jT mJ5_init l G _ _ _ X [ow s 2 [.null, .int (iI 0), .int (iI 0), .int (iI 0)], ow a 1 [.ref v, .int (iI 1), .int (jB false), .int (iI (cs.length : Int))], oa v 0 (lu cs ++ junk)] 0 [(0, .ref s), (1, .ref a)] [] _
  refine jlv_aload_n dJ5_init_0 rfl 0 rfl ?_
  refine jlv_aload_n dJ5_init_1 rfl 1 rfl ?_
  refine jlv_null dJ5_init_2 ?_
  refine jr_callI [.ref a, .null] (sp_S_initASBU l G s a v cs junk (hb) (hj) (hl)) (rest := []) rfl rfl rfl q595 q596 q81 oJ5_init_2 pJ5_init_2 (by decide) (by decide) (Nat.le_of_ble_eq_true rfl) [0, 1, 2] [] rfl trivial (Φr := []) rfl (by first | omega | exact Nat.zero_le _) dJ5_init_3 (fun v9 Ψ hq => ?_) (fun _ _ hq => hq.elim)
  obtain ⟨w, rfl, rfl⟩ := hq
  show jT mJ5_init l G _ _ _ X [ow s 2 [.ref w, .int (iI 1), .int (iI 0), .int (iI 0)], oa w 0 (lu cs), ow a 1 [.ref v, .int (iI 1), .int (jB false), .int (iI (cs.length : Int))], oa v 0 (lu cs ++ junk)] 6 [(0, .ref s), (1, .ref a)] [] _
  exact jr_vret dJ5_init_6 rfl (Ψ := [ow s 2 [.ref w, .int (iI 1), .int (iI 0), .int (iI 0)], oa w 0 (lu cs), ow a 1 [.ref v, .int (iI 1), .int (jB false), .int (iI (cs.length : Int))], oa v 0 (lu cs ++ junk)]) ⟨w, rfl, rfl⟩ (js_pickP [0, 1, 2, 3] [] rfl trivial rfl)

theorem sp_S_initSBL (l : Launch) (G : jG) (s : Nat) (a : Nat) (v : Nat) (cs : List Nat) (junk : List Value) (hb : ∀ c ∈ cs, c < 256) (hj : jfit junk) (hl : cs.length + junk.length ≤ 1000000) : jS l G yJ5_init mJ5_init 5 [.ref s, .ref a] [ow s 2 [.null, .int (iI 0), .int (iI 0), .int (iI 0)], ow a 1 [.ref v, .int (iI 0), .int (jB false), .int (iI (cs.length : Int))], oa v 0 (lb cs ++ junk)] ((cs.length + 7) / 4) (jret (fun v9 Ψ => ∃ w : Nat, v9 = none ∧ Ψ = [ow s 2 [.ref w, .int (iI 0), .int (iI 0), .int (iI 0)], oa w 0 (lb cs), ow a 1 [.ref v, .int (iI 0), .int (jB false), .int (iI (cs.length : Int))], oa v 0 (lb cs ++ junk)])) := by
  refine jS_of (plainFor_of_name (by decide)) rfl rfl rfl (Nat.le_of_ble_eq_true rfl) (fun X => ?_)
  show jT mJ5_init l G _ _ _ X [ow s 2 [.null, .int (iI 0), .int (iI 0), .int (iI 0)], ow a 1 [.ref v, .int (iI 0), .int (jB false), .int (iI (cs.length : Int))], oa v 0 (lb cs ++ junk)] 0 [(0, .ref s), (1, .ref a)] [] _
  refine jlv_aload_n dJ5_init_0 rfl 0 rfl ?_
  refine jlv_aload_n dJ5_init_1 rfl 1 rfl ?_
  refine jlv_null dJ5_init_2 ?_
  refine jr_callI [.ref a, .null] (sp_S_initASBL l G s a v cs junk (hb) (hj) (hl)) (rest := []) rfl rfl rfl q595 q596 q81 oJ5_init_2 pJ5_init_2 (by decide) (by decide) (Nat.le_of_ble_eq_true rfl) [0, 1, 2] [] rfl trivial (Φr := []) rfl (by first | omega | exact Nat.zero_le _) dJ5_init_3 (fun v9 Ψ hq => ?_) (fun _ _ hq => hq.elim)
  obtain ⟨w, rfl, rfl⟩ := hq
  show jT mJ5_init l G _ _ _ X [ow s 2 [.ref w, .int (iI 0), .int (iI 0), .int (iI 0)], oa w 0 (lb cs), ow a 1 [.ref v, .int (iI 0), .int (jB false), .int (iI (cs.length : Int))], oa v 0 (lb cs ++ junk)] 6 [(0, .ref s), (1, .ref a)] [] _
  exact jr_vret dJ5_init_6 rfl (Ψ := [ow s 2 [.ref w, .int (iI 0), .int (iI 0), .int (iI 0)], oa w 0 (lb cs), ow a 1 [.ref v, .int (iI 0), .int (jB false), .int (iI (cs.length : Int))], oa v 0 (lb cs ++ junk)]) ⟨w, rfl, rfl⟩ (js_pickP [0, 1, 2, 3] [] rfl trivial rfl)

theorem sp_SB_toStringO (l : Launch) (G : jG) (a : Nat) (cs : List Nat) : jS l G yJ4_toString mJ4_toString 6 [.ref a] [OB a cs] ((2 * cs.length + 7) / 4 + 1) (jret (fun v9 Ψ => ∃ r : Nat, v9 = some (.ref r) ∧ Ψ = [jOs r cs, OB a cs])) := by
  refine jS_of (plainFor_of_name (by decide)) rfl rfl rfl (Nat.le_of_ble_eq_true rfl) (fun X => ?_)
  show jT mJ4_toString l G _ _ _ X [OB a cs] 0 [(0, .ref a)] [] _
  by_cases hA : lt256 cs = true
  · skip
    refine jt_same 0 (P := OB a cs) (P' := OL a cs) rfl (OB_l hA) (Φ' := [OL a cs]) rfl ?_
    refine jt_open ?_
    rintro ⟨v, junk⟩ ⟨hb, hl2, hjf⟩
    try dsimp only at hb hl2 hjf
    show jT mJ4_toString l G _ _ _ X [ow a 1 [.ref v, .int (iI 0), .int (jB false), .int (iI (cs.length : Int))], oa v 0 (lb cs ++ junk)] 0 [(0, .ref a)] [] _
    refine jr_new (k0 := 2) rfl q590 q591 q81 (fs := [.null, .int (iI 0), .int (iI 0), .int (iI 0)]) rfl (u := 1) (by decide) (by decide) (by omega) dJ4_toString_0 (fun r => ?_)
    refine jlv_dup dJ4_toString_3 rfl ?_
    refine jlv_aload_n dJ4_toString_4 rfl 0 rfl ?_
    refine jr_callI [.ref a] (sp_S_initSBL l G r a v cs junk (hb) (hjf) (by omega)) (rest := [.ref r]) rfl rfl rfl q592 q593 q81 oJ5_init pJ5_init (by decide) (by decide) (Nat.le_of_ble_eq_true rfl) [0, 1, 2] [] rfl trivial (Φr := []) rfl (by first | omega | exact Nat.zero_le _) dJ4_toString_5 (fun v9 Ψ hq => ?_) (fun _ _ hq => hq.elim)
    obtain ⟨w, rfl, rfl⟩ := hq
    show jT mJ4_toString l G _ _ _ X [ow r 2 [.ref w, .int (iI 0), .int (iI 0), .int (iI 0)], oa w 0 (lb cs), ow a 1 [.ref v, .int (iI 0), .int (jB false), .int (iI (cs.length : Int))], oa v 0 (lb cs ++ junk)] 8 [(0, .ref a)] [.ref r] _
    refine jt_freeze 0 rfl (Φ' := [im r 2 [.ref w, .int (iI 0), .int (iI 0), .int (iI 0)], oa w 0 (lb cs), ow a 1 [.ref v, .int (iI 0), .int (jB false), .int (iI (cs.length : Int))], oa v 0 (lb cs ++ junk)]) rfl ?_
    refine jt_take 0 2 rfl (Φ' := [im r 2 [.ref w, .int (iI 0)], oa w 0 (lb cs), ow a 1 [.ref v, .int (iI 0), .int (jB false), .int (iI (cs.length : Int))], oa v 0 (lb cs ++ junk)]) rfl ?_
    refine jt_freeze 1 rfl (Φ' := [im r 2 [.ref w, .int (iI 0)], ia w 0 (lb cs), ow a 1 [.ref v, .int (iI 0), .int (jB false), .int (iI (cs.length : Int))], oa v 0 (lb cs ++ junk)]) rfl ?_
    refine jt_pickP [0, 1, 2, 3] [] rfl trivial (Φ' := [im r 2 [.ref w, .int (iI 0)], ia w 0 (lb cs), ow a 1 [.ref v, .int (iI 0), .int (jB false), .int (iI (cs.length : Int))], oa v 0 (lb cs ++ junk)]) rfl ?_
    refine jt_fold (A := [im r 2 [.ref w, .int (iI 0)], ia w 0 (lb cs)]) (P := jLs r cs) (jLs_fold hb (by omega) rfl rfl) ?_
    show jT mJ4_toString l G _ _ _ X [jLs r cs, ow a 1 [.ref v, .int (iI 0), .int (jB false), .int (iI (cs.length : Int))], oa v 0 (lb cs ++ junk)] 8 [(0, .ref a)] [.ref r] _
    refine jt_same 0 (P := jLs r cs) (P' := jOs r cs) rfl ((jOs_l hA).symm) (Φ' := [jOs r cs, ow a 1 [.ref v, .int (iI 0), .int (jB false), .int (iI (cs.length : Int))], oa v 0 (lb cs ++ junk)]) rfl ?_
    refine jt_pickP [1, 2, 0] [] rfl trivial (Φ' := [ow a 1 [.ref v, .int (iI 0), .int (jB false), .int (iI (cs.length : Int))], oa v 0 (lb cs ++ junk), jOs r cs]) rfl ?_
    refine jt_fold (A := [ow a 1 [.ref v, .int (iI 0), .int (jB false), .int (iI (cs.length : Int))], oa v 0 (lb cs ++ junk)]) (P := OL a cs) (OL_fold hb hl2 hjf rfl rfl) ?_
    show jT mJ4_toString l G _ _ _ X [OL a cs, jOs r cs] 8 [(0, .ref a)] [.ref r] _
    refine jt_same 0 (P := OL a cs) (P' := OB a cs) rfl ((OB_l hA).symm) (Φ' := [OB a cs, jOs r cs]) rfl ?_
    exact jr_aret dJ4_toString_8 rfl (Or.inl ⟨_, rfl⟩) (Or.inr ⟨_, rfl⟩) (Ψ := [jOs r cs, OB a cs]) ⟨r, rfl, rfl⟩ (js_pickP [1, 0] [] rfl trivial rfl)
  · skip
    have hA : lt256 cs = false := by simpa using hA
    refine jt_same 0 (P := OB a cs) (P' := SU a cs) rfl (OB_u hA) (Φ' := [SU a cs]) rfl ?_
    refine jt_open ?_
    rintro ⟨v, junk⟩ ⟨hb, hl2, hjf, hex⟩
    try dsimp only at hb hl2 hjf hex
    show jT mJ4_toString l G _ _ _ X [ow a 1 [.ref v, .int (iI 1), .int (jB false), .int (iI (cs.length : Int))], oa v 0 (lu cs ++ junk)] 0 [(0, .ref a)] [] _
    refine jr_new (k0 := 2) rfl q590 q591 q81 (fs := [.null, .int (iI 0), .int (iI 0), .int (iI 0)]) rfl (u := 1) (by decide) (by decide) (by omega) dJ4_toString_0 (fun r => ?_)
    refine jlv_dup dJ4_toString_3 rfl ?_
    refine jlv_aload_n dJ4_toString_4 rfl 0 rfl ?_
    refine jr_callI [.ref a] (sp_S_initSBU l G r a v cs junk (hb) (hjf) (by omega)) (rest := [.ref r]) rfl rfl rfl q592 q593 q81 oJ5_init pJ5_init (by decide) (by decide) (Nat.le_of_ble_eq_true rfl) [0, 1, 2] [] rfl trivial (Φr := []) rfl (by first | omega | exact Nat.zero_le _) dJ4_toString_5 (fun v9 Ψ hq => ?_) (fun _ _ hq => hq.elim)
    obtain ⟨w, rfl, rfl⟩ := hq
    show jT mJ4_toString l G _ _ _ X [ow r 2 [.ref w, .int (iI 1), .int (iI 0), .int (iI 0)], oa w 0 (lu cs), ow a 1 [.ref v, .int (iI 1), .int (jB false), .int (iI (cs.length : Int))], oa v 0 (lu cs ++ junk)] 8 [(0, .ref a)] [.ref r] _
    refine jt_freeze 0 rfl (Φ' := [im r 2 [.ref w, .int (iI 1), .int (iI 0), .int (iI 0)], oa w 0 (lu cs), ow a 1 [.ref v, .int (iI 1), .int (jB false), .int (iI (cs.length : Int))], oa v 0 (lu cs ++ junk)]) rfl ?_
    refine jt_take 0 2 rfl (Φ' := [im r 2 [.ref w, .int (iI 1)], oa w 0 (lu cs), ow a 1 [.ref v, .int (iI 1), .int (jB false), .int (iI (cs.length : Int))], oa v 0 (lu cs ++ junk)]) rfl ?_
    refine jt_freeze 1 rfl (Φ' := [im r 2 [.ref w, .int (iI 1)], ia w 0 (lu cs), ow a 1 [.ref v, .int (iI 1), .int (jB false), .int (iI (cs.length : Int))], oa v 0 (lu cs ++ junk)]) rfl ?_
    refine jt_pickP [0, 1, 2, 3] [] rfl trivial (Φ' := [im r 2 [.ref w, .int (iI 1)], ia w 0 (lu cs), ow a 1 [.ref v, .int (iI 1), .int (jB false), .int (iI (cs.length : Int))], oa v 0 (lu cs ++ junk)]) rfl ?_
    refine jt_fold (A := [im r 2 [.ref w, .int (iI 1)], ia w 0 (lu cs)]) (P := jUs r cs) (jUs_fold hb (by omega) hex rfl) ?_
    show jT mJ4_toString l G _ _ _ X [jUs r cs, ow a 1 [.ref v, .int (iI 1), .int (jB false), .int (iI (cs.length : Int))], oa v 0 (lu cs ++ junk)] 8 [(0, .ref a)] [.ref r] _
    refine jt_same 0 (P := jUs r cs) (P' := jOs r cs) rfl ((jOs_u hA).symm) (Φ' := [jOs r cs, ow a 1 [.ref v, .int (iI 1), .int (jB false), .int (iI (cs.length : Int))], oa v 0 (lu cs ++ junk)]) rfl ?_
    refine jt_pickP [1, 2, 0] [] rfl trivial (Φ' := [ow a 1 [.ref v, .int (iI 1), .int (jB false), .int (iI (cs.length : Int))], oa v 0 (lu cs ++ junk), jOs r cs]) rfl ?_
    refine jt_fold (A := [ow a 1 [.ref v, .int (iI 1), .int (jB false), .int (iI (cs.length : Int))], oa v 0 (lu cs ++ junk)]) (P := SU a cs) (SU_fold hb hl2 hjf hex rfl rfl) ?_
    show jT mJ4_toString l G _ _ _ X [SU a cs, jOs r cs] 8 [(0, .ref a)] [.ref r] _
    refine jt_same 0 (P := SU a cs) (P' := OB a cs) rfl ((OB_u hA).symm) (Φ' := [OB a cs, jOs r cs]) rfl ?_
    exact jr_aret dJ4_toString_8 rfl (Or.inl ⟨_, rfl⟩) (Or.inr ⟨_, rfl⟩) (Ψ := [jOs r cs, OB a cs]) ⟨r, rfl, rfl⟩ (js_pickP [1, 0] [] rfl trivial rfl)

theorem sp_S_coderR (l : Launch) (G : jG) (a : Nat) (v : Nat) : jS l G yJ5_coder mJ5_coder 1 [.ref a] [im a 2 [.ref v, .int (iI 1)]] (0) (jret (fun v9 Ψ => v9 = some (.int (iI 1)) ∧ Ψ = [])) := by
  refine jS_of (plainFor_of_name (by decide)) rfl rfl rfl (Nat.le_of_ble_eq_true rfl) (fun X => ?_)
  show jT mJ5_coder l G _ _ _ X [im a 2 [.ref v, .int (iI 1)]] 0 [(0, .ref a)] [] _
  refine jr_g0 (fun hg0 => ?_)
  obtain ⟨gi, ⟨gea, hgea, hgea2⟩, ⟨gem, hgem, hgem2⟩, ⟨gpr, hgpr, hgpr2⟩, ⟨gic, gicad, hgic, hgic2, hgic3⟩, ⟨gcc, gccad, hgcc, hgcc2, hgcc3⟩, grf, gks⟩ := hg0
  refine jr_getsV 3 rfl q525 (v := .int (iI 1)) (gi (3, 1) (List.mem_of_getElem? (i := 0) rfl)) dJ5_coder_0 ?_
  refine ji_if_eq 13 (by decide) dJ5_coder_3 (by decide) (fun h_108 => absurd h_108 (by decide)) (fun h_108 => ?_)
  refine jlv_aload_n dJ5_coder_6 rfl 0 rfl ?_
  refine jr_get 0 rfl rfl 1 q676 (Or.inl rfl) rfl dJ5_coder_7 ?_
  refine jlv_goto (tgt := 14) dJ5_coder_10 (by decide) ?_
  exact jr_zret dJ5_coder_14 rfl rfl (Ψ := []) ⟨rfl, rfl⟩ (js_pickP [] [] rfl trivial rfl)

theorem sp_S_isLatin1U (l : Launch) (G : jG) (a : Nat) (v : Nat) : jS l G yJ5_isLatin1 mJ5_isLatin1 1 [.ref a] [im a 2 [.ref v, .int (iI 1)]] (0) (jret (fun v9 Ψ => v9 = some (.int (iI 0)) ∧ Ψ = [])) := by
  refine jS_of (plainFor_of_name (by decide)) rfl rfl rfl (Nat.le_of_ble_eq_true rfl) (fun X => ?_)
  show jT mJ5_isLatin1 l G _ _ _ X [im a 2 [.ref v, .int (iI 1)]] 0 [(0, .ref a)] [] _
  refine jr_g0 (fun hg0 => ?_)
  obtain ⟨gi, ⟨gea, hgea, hgea2⟩, ⟨gem, hgem, hgem2⟩, ⟨gpr, hgpr, hgpr2⟩, ⟨gic, gicad, hgic, hgic2, hgic3⟩, ⟨gcc, gccad, hgcc, hgcc2, hgcc3⟩, grf, gks⟩ := hg0
  refine jr_getsV 3 rfl q525 (v := .int (iI 1)) (gi (3, 1) (List.mem_of_getElem? (i := 0) rfl)) dJ5_isLatin1_0 ?_
  refine ji_if_eq 17 (by decide) dJ5_isLatin1_3 (by decide) (fun h_109 => absurd h_109 (by decide)) (fun h_109 => ?_)
  refine jlv_aload_n dJ5_isLatin1_6 rfl 0 rfl ?_
  refine jr_get 0 rfl rfl 1 q676 (Or.inl rfl) rfl dJ5_isLatin1_7 ?_
  refine ji_if_ne 17 (by decide) dJ5_isLatin1_10 (by decide) (fun h_110 => ?_) (fun h_110 => absurd h_110 (by decide))
  refine jlv_iconst (v := iI 0) dJ5_isLatin1_17 rfl ?_
  exact jr_zret dJ5_isLatin1_18 rfl rfl (Ψ := []) ⟨rfl, rfl⟩ (js_pickP [] [] rfl trivial rfl)

theorem sp_S_lengthU (l : Launch) (G : jG) (a : Nat) (cs : List Nat) : jS l G yJ5_length mJ5_length 2 [.ref a] [jUs a cs] (0) (jret (fun v9 Ψ => v9 = some (.int (iI (cs.length : Int))) ∧ Ψ = [])) := by
  refine jS_of (plainFor_of_name (by decide)) rfl rfl rfl (Nat.le_of_ble_eq_true rfl) (fun X => ?_)
  show jT mJ5_length l G _ _ _ X [jUs a cs] 0 [(0, .ref a)] [] _
  refine jt_dup 0 rfl jpers_jUs ?_
  refine jt_open ?_
  rintro v ⟨hb, hl, hex⟩
  try dsimp only at hb hl hex
  show jT mJ5_length l G _ _ _ X [im a 2 [.ref v, .int (iI 1)], ia v 0 (lu cs), jUs a cs] 0 [(0, .ref a)] [] _
  have hul := lu_len cs
  refine jlv_aload_n dJ5_length_0 rfl 0 rfl ?_
  refine jr_get 0 rfl rfl 0 q675 (Or.inl rfl) rfl dJ5_length_1 ?_
  refine jr_alen 1 rfl (ty := .byte) rfl dJ5_length_4 (n := iI (((2 * cs.length) : Nat) : Int)) (by rw [show _ = _ from lu_len cs]; rfl) ?_
  refine jlv_aload_n dJ5_length_5 rfl 0 rfl ?_
  refine jr_callV [] (sp_S_coderR l G a v) (rest := [.int (iI (((2 * cs.length) : Nat) : Int))]) 0 rfl rfl rfl q521 q522 q523 q81 oJ5_coder pJ5_coder (by decide) (by decide) (Nat.le_of_ble_eq_true rfl) [0, 0, 1, 2] [0] rfl ⟨⟨_, rfl, jpers_A⟩, trivial⟩ (Φr := [im a 2 [.ref v, .int (iI 1)], ia v 0 (lu cs), jUs a cs]) rfl (by first | omega | exact Nat.zero_le _) dJ5_length_6 (fun v9 Ψ hq => ?_) (fun _ _ hq => hq.elim)
  obtain ⟨rfl, rfl⟩ := hq
  show jT mJ5_length l G _ _ _ X [im a 2 [.ref v, .int (iI 1)], ia v 0 (lu cs), jUs a cs] 9 [(0, .ref a)] [.int (iI 1), .int (iI (((2 * cs.length) : Nat) : Int))] _
  refine jlv_ishr dJ5_length_9 ?_
  rw [iI_shr1 (n := 2 * cs.length) (by omega)]
  refine jt_eq (st' := [.int (iI (cs.length : Int))]) (lv' := [(0, .ref a)]) (by first | rfl | rw [show ((2 * cs.length / 2 : Nat) : Int) = (cs.length : Int) by omega]) rfl ?_
  exact jr_zret dJ5_length_10 rfl rfl (Ψ := []) ⟨rfl, rfl⟩ (js_pickP [] [] rfl trivial rfl)

theorem sp_S_lengthO (l : Launch) (G : jG) (a : Nat) (cs : List Nat) : jS l G yJ5_length mJ5_length 2 [.ref a] [jOs a cs] (0) (jret (fun v9 Ψ => v9 = some (.int (iI (cs.length : Int))) ∧ Ψ = [])) := by
  cases h : lt256 cs with
  | true => rw [jOs_l h]; exact sp_S_length l G a cs
  | false => rw [jOs_u h]; exact sp_S_lengthU l G a cs
abbrev mJ6_charAt : jM := (cJ6_charAt, RJ6, 2, (Option.some FieldType.char), "charAt", none)
theorem oJ6_charAt : jcode yJ6_charAt mJ6_charAt := q1555
theorem pJ6_charAt : jpar yJ6_charAt 2 := ⟨by decide +kernel, by decide +kernel, by decide +kernel⟩
theorem sp_U_charAt (l : Launch) (G : jG) (v : Nat) (cs : List Nat) (i : Nat) (c : Nat) (hc : cs[i]? = some c) (hb : c < 65536) (hL : cs.length ≤ 900000) : jS l G yJ6_charAt mJ6_charAt 4 [.ref v, .int (iI (i : Int))] [ia v 0 (lu cs ++ [])] (0) (jret (fun v9 Ψ => v9 = some (.int (iI (c : Int))) ∧ Ψ = [])) := by
  refine jS_of (plainFor_of_name (by decide)) rfl rfl rfl (Nat.le_of_ble_eq_true rfl) (fun X => ?_)
  show jT mJ6_charAt l G _ _ _ X [ia v 0 (lu cs ++ [])] 0 [(0, .ref v), (1, .int (iI (i : Int)))] [] _
  have hi := jlt hc
  refine jlv_iload_n dJ6_charAt_0 rfl 1 rfl ?_
  refine jlv_aload_n dJ6_charAt_1 rfl 0 rfl ?_
  refine jr_callS [.int (iI (i : Int)), .ref v] (sp_U_checkIndex l G true v (lu cs ++ []) i (by rw [List.append_nil, lu_len]; omega) (by rw [List.append_nil, lu_len]; omega)) (rest := []) q1556 q1557 q82 oJ6_checkIndex pJ6_checkIndex (by decide) (by decide) (Nat.le_of_ble_eq_true rfl) [0, 0] [0] rfl ⟨⟨_, rfl, jpers_A⟩, trivial⟩ (Φr := [ia v 0 (lu cs ++ [])]) rfl (by first | omega | exact Nat.zero_le _) dJ6_charAt_2 (fun v9 Ψ hq => ?_) (fun _ _ hq => hq.elim)
  obtain ⟨rfl, rfl⟩ := hq
  show jT mJ6_charAt l G _ _ _ X [ia v 0 (lu cs ++ []), ia v 0 (lu cs ++ [])] 5 [(0, .ref v), (1, .int (iI (i : Int)))] [] _
  refine jlv_aload_n dJ6_charAt_5 rfl 0 rfl ?_
  refine jlv_iload_n dJ6_charAt_6 rfl 1 rfl ?_
  refine jr_callS [.ref v, .int (iI (i : Int))] (sp_U_getChar l G true v cs [] i c (hc) (hb) (by simpa using hL)) (rest := []) q668 q669 q82 oJ6_getChar pJ6_getChar (by decide) (by decide) (Nat.le_of_ble_eq_true rfl) [0, 0, 1] [0] rfl ⟨⟨_, rfl, jpers_A⟩, trivial⟩ (Φr := [ia v 0 (lu cs ++ []), ia v 0 (lu cs ++ [])]) rfl (by first | omega | exact Nat.zero_le _) dJ6_charAt_7 (fun v9 Ψ hq => ?_) (fun _ _ hq => hq.elim)
  obtain ⟨rfl, rfl⟩ := hq
  show jT mJ6_charAt l G _ _ _ X [ia v 0 (lu cs ++ []), ia v 0 (lu cs ++ []), ia v 0 (lu cs ++ [])] 10 [(0, .ref v), (1, .int (iI (i : Int)))] [.int (iI (c : Int))] _
  exact jr_zret dJ6_charAt_10 rfl (jn_char (by omega)) (Ψ := []) ⟨rfl, rfl⟩ (js_pickP [] [] rfl trivial rfl)

theorem sp_S_charAtU (l : Launch) (G : jG) (a : Nat) (cs : List Nat) (i : Nat) (c : Nat) (hc : cs[i]? = some c) : jS l G yJ5_charAt mJ5_charAt 5 [.ref a, .int (iI (i : Int))] [jUs a cs] (0) (jret (fun v9 Ψ => v9 = some (.int (iI (c : Int))) ∧ Ψ = [])) := by
  refine jS_of (plainFor_of_name (by decide)) rfl rfl rfl (Nat.le_of_ble_eq_true rfl) (fun X => ?_)
  show jT mJ5_charAt l G _ _ _ X [jUs a cs] 0 [(0, .ref a), (1, .int (iI (i : Int)))] [] _
  refine jt_dup 0 rfl jpers_jUs ?_
  refine jt_open ?_
  rintro v ⟨hb, hl, hex⟩
  try dsimp only at hb hl hex
  show jT mJ5_charAt l G _ _ _ X [im a 2 [.ref v, .int (iI 1)], ia v 0 (lu cs), jUs a cs] 0 [(0, .ref a), (1, .int (iI (i : Int)))] [] _
  have hb1 := hb c (l_mem hc)
  refine jlv_aload_n dJ5_charAt_0 rfl 0 rfl ?_
  refine jr_callV [] (sp_S_isLatin1U l G a v) (rest := []) 0 rfl rfl rfl q1542 q1543 q1544 q81 oJ5_isLatin1 pJ5_isLatin1 (by decide) (by decide) (Nat.le_of_ble_eq_true rfl) [0, 0, 1, 2] [0] rfl ⟨⟨_, rfl, jpers_A⟩, trivial⟩ (Φr := [im a 2 [.ref v, .int (iI 1)], ia v 0 (lu cs), jUs a cs]) rfl (by first | omega | exact Nat.zero_le _) dJ5_charAt_1 (fun v9 Ψ hq => ?_) (fun _ _ hq => hq.elim)
  obtain ⟨rfl, rfl⟩ := hq
  show jT mJ5_charAt l G _ _ _ X [im a 2 [.ref v, .int (iI 1)], ia v 0 (lu cs), jUs a cs] 4 [(0, .ref a), (1, .int (iI (i : Int)))] [.int (iI 0)] _
  refine ji_if_eq 16 (by decide) dJ5_charAt_4 (by decide) (fun h_111 => ?_) (fun h_111 => absurd h_111 (by decide))
  refine jlv_aload_n dJ5_charAt_16 rfl 0 rfl ?_
  refine jr_get 0 rfl rfl 0 q675 (Or.inl rfl) rfl dJ5_charAt_17 ?_
  refine jlv_iload_n dJ5_charAt_20 rfl 1 rfl ?_
  refine jt_same 1 (P := ia v 0 (lu cs)) (P' := ia v 0 (lu cs ++ [])) rfl (by rw [List.append_nil]) (Φ' := [im a 2 [.ref v, .int (iI 1)], ia v 0 (lu cs ++ []), jUs a cs]) rfl ?_
  refine jr_callS [.ref v, .int (iI (i : Int))] (sp_U_charAt l G v cs i c (hc) (hb1) (by omega)) (rest := []) q1553 q1554 q82 oJ6_charAt pJ6_charAt (by decide) (by decide) (Nat.le_of_ble_eq_true rfl) [1, 0, 1, 2] [1] rfl ⟨⟨_, rfl, jpers_A⟩, trivial⟩ (Φr := [im a 2 [.ref v, .int (iI 1)], ia v 0 (lu cs ++ []), jUs a cs]) rfl (by first | omega | exact Nat.zero_le _) dJ5_charAt_21 (fun v9 Ψ hq => ?_) (fun _ _ hq => hq.elim)
  obtain ⟨rfl, rfl⟩ := hq
  show jT mJ5_charAt l G _ _ _ X [im a 2 [.ref v, .int (iI 1)], ia v 0 (lu cs ++ []), jUs a cs] 24 [(0, .ref a), (1, .int (iI (i : Int)))] [.int (iI (c : Int))] _
  exact jr_zret dJ5_charAt_24 rfl (jn_char (by omega)) (Ψ := []) ⟨rfl, rfl⟩ (js_pickP [] [] rfl trivial rfl)

theorem sp_S_charAtO (l : Launch) (G : jG) (a : Nat) (cs : List Nat) (i : Nat) (c : Nat) (hc : cs[i]? = some c) : jS l G yJ5_charAt mJ5_charAt 5 [.ref a, .int (iI (i : Int))] [jOs a cs] (0) (jret (fun v9 Ψ => v9 = some (.int (iI (c : Int))) ∧ Ψ = [])) := by
  cases h : lt256 cs with
  | true => rw [jOs_l h]; exact sp_S_charAt l G a cs i c hc
  | false => rw [jOs_u h]; exact sp_S_charAtU l G a cs i c hc
