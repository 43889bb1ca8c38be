/-! rows of single instructions: the kit's lv_ rows over jT; by gen/rows.py -/
section JL
variable {M : jM} {l : Launch} {G : jG} {d C : Nat} {Q : jQ} {X : jX} {Φ : List jP} {pc : Nat} {lv lv' : List (Nat × Value)} {rest : List Value} {b : Nat}
theorem jlv_iconst {n : Int} {v : Int32} (hdg : decode M.1 pc = .ok (.iconst n, 1)) (hv : Int32.ofInt n = v) (k : jT M l G d C Q X Φ (pc + 1) lv (.int v :: rest) b) : jT M l G d C Q X Φ pc lv (rest) b := by
  obtain ⟨p, e, s, m, args, below, meth, c, F⟩ := X
  intro D H locs cells slots ls z1 z2 z3 z4 z5
  exact lv_iconst D.1 D.2.1 hdg hv (k D H locs cells slots ls z1 z2 z3 z4 z5)
theorem jlv_bipush {n : Int} {v : Int32} (hdg : decode M.1 pc = .ok (.bipush n, 2)) (hv : (Int8.ofInt n).toInt32 = v) (k : jT M l G d C Q X Φ (pc + 2) lv (.int v :: rest) b) : jT M l G d C Q X Φ pc lv (rest) b := by
  obtain ⟨p, e, s, m, args, below, meth, c, F⟩ := X
  intro D H locs cells slots ls z1 z2 z3 z4 z5
  exact lv_bipush D.1 D.2.1 hdg hv (k D H locs cells slots ls z1 z2 z3 z4 z5)
theorem jlv_sipush {n : Int} {v : Int32} (hdg : decode M.1 pc = .ok (.sipush n, 3)) (hv : (Int16.ofInt n).toInt32 = v) (k : jT M l G d C Q X Φ (pc + 3) lv (.int v :: rest) b) : jT M l G d C Q X Φ pc lv (rest) b := by
  obtain ⟨p, e, s, m, args, below, meth, c, F⟩ := X
  intro D H locs cells slots ls z1 z2 z3 z4 z5
  exact lv_sipush D.1 D.2.1 hdg hv (k D H locs cells slots ls z1 z2 z3 z4 z5)
theorem jlv_lconst {n : Fin 2} {v : Int64} (hdg : decode M.1 pc = .ok (.lconst n, 1)) (hv : Int64.ofNat (n : Nat) = v) (k : jT M l G d C Q X Φ (pc + 1) lv (.long v :: rest) b) : jT M l G d C Q X Φ pc lv (rest) b := by
  obtain ⟨p, e, s, m, args, below, meth, c, F⟩ := X
  intro D H locs cells slots ls z1 z2 z3 z4 z5
  exact lv_lconst D.1 D.2.1 hdg hv (k D H locs cells slots ls z1 z2 z3 z4 z5)
theorem jlv_iload_n {k : Fin 4} {i : Nat} {x : Int32} (hdg : decode M.1 pc = .ok (.iload_n k, 1)) (hi : (k : Nat) = i) (nhl : Nat) (hl : lv[nhl]? = some (i, (.int x))) (k : jT M l G d C Q X Φ (pc + 1) lv (.int x :: rest) b) : jT M l G d C Q X Φ pc lv (rest) b := by
  obtain ⟨p, e, s, m, args, below, meth, c, F⟩ := X
  intro D H locs cells slots ls z1 z2 z3 z4 z5
  exact lv_iload_n D.1 D.2.1 hdg hi (lv_at z5 nhl hl) (k D H locs cells slots ls z1 z2 z3 z4 z5)
theorem jlv_iload {i : Nat} {x : Int32} (hdg : decode M.1 pc = .ok (.iload i, 2)) (nhl : Nat) (hl : lv[nhl]? = some (i, (.int x))) (k : jT M l G d C Q X Φ (pc + 2) lv (.int x :: rest) b) : jT M l G d C Q X Φ pc lv (rest) b := by
  obtain ⟨p, e, s, m, args, below, meth, c, F⟩ := X
  intro D H locs cells slots ls z1 z2 z3 z4 z5
  exact lv_iload D.1 D.2.1 hdg (lv_at z5 nhl hl) (k D H locs cells slots ls z1 z2 z3 z4 z5)
theorem jlv_lload_n {k : Fin 4} {i : Nat} {x : Int64} (hdg : decode M.1 pc = .ok (.lload_n k, 1)) (hi : (k : Nat) = i) (nhl : Nat) (hl : lv[nhl]? = some (i, (.long x))) (k : jT M l G d C Q X Φ (pc + 1) lv (.long x :: rest) b) : jT M l G d C Q X Φ pc lv (rest) b := by
  obtain ⟨p, e, s, m, args, below, meth, c, F⟩ := X
  intro D H locs cells slots ls z1 z2 z3 z4 z5
  exact lv_lload_n D.1 D.2.1 hdg hi (lv_at z5 nhl hl) (k D H locs cells slots ls z1 z2 z3 z4 z5)
theorem jlv_lload {i : Nat} {x : Int64} (hdg : decode M.1 pc = .ok (.lload i, 2)) (nhl : Nat) (hl : lv[nhl]? = some (i, (.long x))) (k : jT M l G d C Q X Φ (pc + 2) lv (.long x :: rest) b) : jT M l G d C Q X Φ pc lv (rest) b := by
  obtain ⟨p, e, s, m, args, below, meth, c, F⟩ := X
  intro D H locs cells slots ls z1 z2 z3 z4 z5
  exact lv_lload D.1 D.2.1 hdg (lv_at z5 nhl hl) (k D H locs cells slots ls z1 z2 z3 z4 z5)
theorem jlv_aload_n {k : Fin 4} {i : Nat} {x : Nat} (hdg : decode M.1 pc = .ok (.aload_n k, 1)) (hi : (k : Nat) = i) (nhl : Nat) (hl : lv[nhl]? = some (i, (.ref x))) (k : jT M l G d C Q X Φ (pc + 1) lv (.ref x :: rest) b) : jT M l G d C Q X Φ pc lv (rest) b := by
  obtain ⟨p, e, s, m, args, below, meth, c, F⟩ := X
  intro D H locs cells slots ls z1 z2 z3 z4 z5
  exact lv_aload_n D.1 D.2.1 hdg hi (lv_at z5 nhl hl) (k D H locs cells slots ls z1 z2 z3 z4 z5)
theorem jlv_aload {i : Nat} {x : Nat} (hdg : decode M.1 pc = .ok (.aload i, 2)) (nhl : Nat) (hl : lv[nhl]? = some (i, (.ref x))) (k : jT M l G d C Q X Φ (pc + 2) lv (.ref x :: rest) b) : jT M l G d C Q X Φ pc lv (rest) b := by
  obtain ⟨p, e, s, m, args, below, meth, c, F⟩ := X
  intro D H locs cells slots ls z1 z2 z3 z4 z5
  exact lv_aload D.1 D.2.1 hdg (lv_at z5 nhl hl) (k D H locs cells slots ls z1 z2 z3 z4 z5)
theorem jlv_istore_n {k : Fin 4} {i : Nat} {x : Int32}  (hdg : decode M.1 pc = .ok (.istore_n k, 1)) (hi : (k : Nat) = i) (hn : i < M.2.2.1) (hl : (i, Value.int x) :: lv.filter (fun q => !(q.1 == i) && !(q.1 + 1 == i && q.2.category == 2)) = lv') (kk : jT M l G d C Q X Φ (pc + 1) lv' rest b) : jT M l G d C Q X Φ pc lv (.int x :: rest) b := by
  obtain ⟨p, e, s, m, args, below, meth, c, F⟩ := X
  intro D H locs cells slots ls z1 z2 z3 z4 z5
  exact lv_istore_n D.1 D.2.1 hdg hi z5 hn hl (fun ls' h' => kk D H locs cells slots ls' z1 z2 z3 z4 h')
theorem jlv_istore {i : Nat} {x : Int32}  (hdg : decode M.1 pc = .ok (.istore i, 2)) (hn : i < M.2.2.1) (hl : (i, Value.int x) :: lv.filter (fun q => !(q.1 == i) && !(q.1 + 1 == i && q.2.category == 2)) = lv') (kk : jT M l G d C Q X Φ (pc + 2) lv' rest b) : jT M l G d C Q X Φ pc lv (.int x :: rest) b := by
  obtain ⟨p, e, s, m, args, below, meth, c, F⟩ := X
  intro D H locs cells slots ls z1 z2 z3 z4 z5
  exact lv_istore D.1 D.2.1 hdg z5 hn hl (fun ls' h' => kk D H locs cells slots ls' z1 z2 z3 z4 h')
theorem jlv_lstore_n {k : Fin 4} {i : Nat} {x : Int64}  (hdg : decode M.1 pc = .ok (.lstore_n k, 1)) (hi : (k : Nat) = i) (hn : i + 1 < M.2.2.1) (hl : (i, Value.long x) :: lv.filter (fun q => !(q.1 == i) && (!(q.1 == i + 1) && !(q.1 + 1 == i && q.2.category == 2))) = lv') (kk : jT M l G d C Q X Φ (pc + 1) lv' rest b) : jT M l G d C Q X Φ pc lv (.long x :: rest) b := by
  obtain ⟨p, e, s, m, args, below, meth, c, F⟩ := X
  intro D H locs cells slots ls z1 z2 z3 z4 z5
  exact lv_lstore_n D.1 D.2.1 hdg hi z5 hn hl (fun ls' h' => kk D H locs cells slots ls' z1 z2 z3 z4 h')
theorem jlv_lstore {i : Nat} {x : Int64}  (hdg : decode M.1 pc = .ok (.lstore i, 2)) (hn : i + 1 < M.2.2.1) (hl : (i, Value.long x) :: lv.filter (fun q => !(q.1 == i) && (!(q.1 == i + 1) && !(q.1 + 1 == i && q.2.category == 2))) = lv') (kk : jT M l G d C Q X Φ (pc + 2) lv' rest b) : jT M l G d C Q X Φ pc lv (.long x :: rest) b := by
  obtain ⟨p, e, s, m, args, below, meth, c, F⟩ := X
  intro D H locs cells slots ls z1 z2 z3 z4 z5
  exact lv_lstore D.1 D.2.1 hdg z5 hn hl (fun ls' h' => kk D H locs cells slots ls' z1 z2 z3 z4 h')
theorem jlv_astore_n {k : Fin 4} {i : Nat} {x : Nat}  (hdg : decode M.1 pc = .ok (.astore_n k, 1)) (hi : (k : Nat) = i) (hn : i < M.2.2.1) (hl : (i, Value.ref x) :: lv.filter (fun q => !(q.1 == i) && !(q.1 + 1 == i && q.2.category == 2)) = lv') (kk : jT M l G d C Q X Φ (pc + 1) lv' rest b) : jT M l G d C Q X Φ pc lv (.ref x :: rest) b := by
  obtain ⟨p, e, s, m, args, below, meth, c, F⟩ := X
  intro D H locs cells slots ls z1 z2 z3 z4 z5
  exact lv_astore_n D.1 D.2.1 hdg hi z5 hn hl (fun ls' h' => kk D H locs cells slots ls' z1 z2 z3 z4 h')
theorem jlv_astore {i : Nat} {x : Nat}  (hdg : decode M.1 pc = .ok (.astore i, 2)) (hn : i < M.2.2.1) (hl : (i, Value.ref x) :: lv.filter (fun q => !(q.1 == i) && !(q.1 + 1 == i && q.2.category == 2)) = lv') (kk : jT M l G d C Q X Φ (pc + 2) lv' rest b) : jT M l G d C Q X Φ pc lv (.ref x :: rest) b := by
  obtain ⟨p, e, s, m, args, below, meth, c, F⟩ := X
  intro D H locs cells slots ls z1 z2 z3 z4 z5
  exact lv_astore D.1 D.2.1 hdg z5 hn hl (fun ls' h' => kk D H locs cells slots ls' z1 z2 z3 z4 h')
theorem jlv_iinc {i k : Nat} {n : Int} {x v : Int32}  (hdg : decode M.1 pc = .ok (.iinc i n, 3)) (hk : lv[k]? = some (i, .int x)) (hv : x + Int32.ofInt n = v) (hn : i < M.2.2.1) (hl : (i, Value.int v) :: lv.filter (fun q => !(q.1 == i) && !(q.1 + 1 == i && q.2.category == 2)) = lv') (kk : jT M l G d C Q X Φ (pc + 3) lv' rest b) : jT M l G d C Q X Φ pc lv rest b := by
  obtain ⟨p, e, s, m, args, below, meth, c, F⟩ := X
  intro D H locs cells slots ls z1 z2 z3 z4 z5
  exact lv_iinc D.1 D.2.1 hdg z5 hk hv hn hl (fun ls' h' => kk D H locs cells slots ls' z1 z2 z3 z4 h')
theorem jlv_iadd {x y : Int32} (hdg : decode M.1 pc = .ok (.iadd, 1)) (k : jT M l G d C Q X Φ (pc + 1) lv ((.int (x + y) :: rest)) b) : jT M l G d C Q X Φ pc lv (.int y :: .int x :: rest) b := by
  obtain ⟨p, e, s, m, args, below, meth, c, F⟩ := X
  intro D H locs cells slots ls z1 z2 z3 z4 z5
  exact lv_iadd D.1 D.2.1 hdg (k D H locs cells slots ls z1 z2 z3 z4 z5)
theorem jlv_isub {x y : Int32} (hdg : decode M.1 pc = .ok (.isub, 1)) (k : jT M l G d C Q X Φ (pc + 1) lv ((.int (x - y) :: rest)) b) : jT M l G d C Q X Φ pc lv (.int y :: .int x :: rest) b := by
  obtain ⟨p, e, s, m, args, below, meth, c, F⟩ := X
  intro D H locs cells slots ls z1 z2 z3 z4 z5
  exact lv_isub D.1 D.2.1 hdg (k D H locs cells slots ls z1 z2 z3 z4 z5)
theorem jlv_imul {x y : Int32} (hdg : decode M.1 pc = .ok (.imul, 1)) (k : jT M l G d C Q X Φ (pc + 1) lv ((.int (x * y) :: rest)) b) : jT M l G d C Q X Φ pc lv (.int y :: .int x :: rest) b := by
  obtain ⟨p, e, s, m, args, below, meth, c, F⟩ := X
  intro D H locs cells slots ls z1 z2 z3 z4 z5
  exact lv_imul D.1 D.2.1 hdg (k D H locs cells slots ls z1 z2 z3 z4 z5)
theorem jlv_iand {x y : Int32} (hdg : decode M.1 pc = .ok (.iand, 1)) (k : jT M l G d C Q X Φ (pc + 1) lv ((.int (x &&& y) :: rest)) b) : jT M l G d C Q X Φ pc lv (.int y :: .int x :: rest) b := by
  obtain ⟨p, e, s, m, args, below, meth, c, F⟩ := X
  intro D H locs cells slots ls z1 z2 z3 z4 z5
  exact lv_iand D.1 D.2.1 hdg (k D H locs cells slots ls z1 z2 z3 z4 z5)
theorem jlv_ior {x y : Int32} (hdg : decode M.1 pc = .ok (.ior, 1)) (k : jT M l G d C Q X Φ (pc + 1) lv ((.int (x ||| y) :: rest)) b) : jT M l G d C Q X Φ pc lv (.int y :: .int x :: rest) b := by
  obtain ⟨p, e, s, m, args, below, meth, c, F⟩ := X
  intro D H locs cells slots ls z1 z2 z3 z4 z5
  exact lv_ior D.1 D.2.1 hdg (k D H locs cells slots ls z1 z2 z3 z4 z5)
theorem jlv_ixor {x y : Int32} (hdg : decode M.1 pc = .ok (.ixor, 1)) (k : jT M l G d C Q X Φ (pc + 1) lv ((.int (x ^^^ y) :: rest)) b) : jT M l G d C Q X Φ pc lv (.int y :: .int x :: rest) b := by
  obtain ⟨p, e, s, m, args, below, meth, c, F⟩ := X
  intro D H locs cells slots ls z1 z2 z3 z4 z5
  exact lv_ixor D.1 D.2.1 hdg (k D H locs cells slots ls z1 z2 z3 z4 z5)
theorem jlv_idiv {x y : Int32} (hdg : decode M.1 pc = .ok (.idiv, 1)) (hne : ¬ y = 0) (k : jT M l G d C Q X Φ (pc + 1) lv ((.int (x / y) :: rest)) b) : jT M l G d C Q X Φ pc lv (.int y :: .int x :: rest) b := by
  obtain ⟨p, e, s, m, args, below, meth, c, F⟩ := X
  intro D H locs cells slots ls z1 z2 z3 z4 z5
  exact lv_idiv D.1 D.2.1 hdg hne (k D H locs cells slots ls z1 z2 z3 z4 z5)
theorem jlv_irem {x y : Int32} (hdg : decode M.1 pc = .ok (.irem, 1)) (hne : ¬ y = 0) (k : jT M l G d C Q X Φ (pc + 1) lv ((.int (x - x / y * y) :: rest)) b) : jT M l G d C Q X Φ pc lv (.int y :: .int x :: rest) b := by
  obtain ⟨p, e, s, m, args, below, meth, c, F⟩ := X
  intro D H locs cells slots ls z1 z2 z3 z4 z5
  exact lv_irem D.1 D.2.1 hdg hne (k D H locs cells slots ls z1 z2 z3 z4 z5)
theorem jlv_ineg {x : Int32} (hdg : decode M.1 pc = .ok (.ineg, 1)) (k : jT M l G d C Q X Φ (pc + 1) lv ((.int (-x) :: rest)) b) : jT M l G d C Q X Φ pc lv (.int x :: rest) b := by
  obtain ⟨p, e, s, m, args, below, meth, c, F⟩ := X
  intro D H locs cells slots ls z1 z2 z3 z4 z5
  exact lv_ineg D.1 D.2.1 hdg (k D H locs cells slots ls z1 z2 z3 z4 z5)
theorem jlv_ladd {x y : Int64} (hdg : decode M.1 pc = .ok (.ladd, 1)) (k : jT M l G d C Q X Φ (pc + 1) lv ((.long (x + y) :: rest)) b) : jT M l G d C Q X Φ pc lv (.long y :: .long x :: rest) b := by
  obtain ⟨p, e, s, m, args, below, meth, c, F⟩ := X
  intro D H locs cells slots ls z1 z2 z3 z4 z5
  exact lv_ladd D.1 D.2.1 hdg (k D H locs cells slots ls z1 z2 z3 z4 z5)
theorem jlv_lsub {x y : Int64} (hdg : decode M.1 pc = .ok (.lsub, 1)) (k : jT M l G d C Q X Φ (pc + 1) lv ((.long (x - y) :: rest)) b) : jT M l G d C Q X Φ pc lv (.long y :: .long x :: rest) b := by
  obtain ⟨p, e, s, m, args, below, meth, c, F⟩ := X
  intro D H locs cells slots ls z1 z2 z3 z4 z5
  exact lv_lsub D.1 D.2.1 hdg (k D H locs cells slots ls z1 z2 z3 z4 z5)
theorem jlv_lmul {x y : Int64} (hdg : decode M.1 pc = .ok (.lmul, 1)) (k : jT M l G d C Q X Φ (pc + 1) lv ((.long (x * y) :: rest)) b) : jT M l G d C Q X Φ pc lv (.long y :: .long x :: rest) b := by
  obtain ⟨p, e, s, m, args, below, meth, c, F⟩ := X
  intro D H locs cells slots ls z1 z2 z3 z4 z5
  exact lv_lmul D.1 D.2.1 hdg (k D H locs cells slots ls z1 z2 z3 z4 z5)
theorem jlv_land {x y : Int64} (hdg : decode M.1 pc = .ok (.land, 1)) (k : jT M l G d C Q X Φ (pc + 1) lv ((.long (x &&& y) :: rest)) b) : jT M l G d C Q X Φ pc lv (.long y :: .long x :: rest) b := by
  obtain ⟨p, e, s, m, args, below, meth, c, F⟩ := X
  intro D H locs cells slots ls z1 z2 z3 z4 z5
  exact lv_land D.1 D.2.1 hdg (k D H locs cells slots ls z1 z2 z3 z4 z5)
theorem jlv_lor {x y : Int64} (hdg : decode M.1 pc = .ok (.lor, 1)) (k : jT M l G d C Q X Φ (pc + 1) lv ((.long (x ||| y) :: rest)) b) : jT M l G d C Q X Φ pc lv (.long y :: .long x :: rest) b := by
  obtain ⟨p, e, s, m, args, below, meth, c, F⟩ := X
  intro D H locs cells slots ls z1 z2 z3 z4 z5
  exact lv_lor D.1 D.2.1 hdg (k D H locs cells slots ls z1 z2 z3 z4 z5)
theorem jlv_lxor {x y : Int64} (hdg : decode M.1 pc = .ok (.lxor, 1)) (k : jT M l G d C Q X Φ (pc + 1) lv ((.long (x ^^^ y) :: rest)) b) : jT M l G d C Q X Φ pc lv (.long y :: .long x :: rest) b := by
  obtain ⟨p, e, s, m, args, below, meth, c, F⟩ := X
  intro D H locs cells slots ls z1 z2 z3 z4 z5
  exact lv_lxor D.1 D.2.1 hdg (k D H locs cells slots ls z1 z2 z3 z4 z5)
theorem jlv_ldiv {x y : Int64} (hdg : decode M.1 pc = .ok (.ldiv, 1)) (hne : ¬ y = 0) (k : jT M l G d C Q X Φ (pc + 1) lv ((.long (x / y) :: rest)) b) : jT M l G d C Q X Φ pc lv (.long y :: .long x :: rest) b := by
  obtain ⟨p, e, s, m, args, below, meth, c, F⟩ := X
  intro D H locs cells slots ls z1 z2 z3 z4 z5
  exact lv_ldiv D.1 D.2.1 hdg hne (k D H locs cells slots ls z1 z2 z3 z4 z5)
theorem jlv_lrem {x y : Int64} (hdg : decode M.1 pc = .ok (.lrem, 1)) (hne : ¬ y = 0) (k : jT M l G d C Q X Φ (pc + 1) lv ((.long (x - x / y * y) :: rest)) b) : jT M l G d C Q X Φ pc lv (.long y :: .long x :: rest) b := by
  obtain ⟨p, e, s, m, args, below, meth, c, F⟩ := X
  intro D H locs cells slots ls z1 z2 z3 z4 z5
  exact lv_lrem D.1 D.2.1 hdg hne (k D H locs cells slots ls z1 z2 z3 z4 z5)
theorem jlv_lneg {x : Int64} (hdg : decode M.1 pc = .ok (.lneg, 1)) (k : jT M l G d C Q X Φ (pc + 1) lv ((.long (-x) :: rest)) b) : jT M l G d C Q X Φ pc lv (.long x :: rest) b := by
  obtain ⟨p, e, s, m, args, below, meth, c, F⟩ := X
  intro D H locs cells slots ls z1 z2 z3 z4 z5
  exact lv_lneg D.1 D.2.1 hdg (k D H locs cells slots ls z1 z2 z3 z4 z5)
theorem jlv_ishl {x y : Int32} (hdg : decode M.1 pc = .ok (.ishl, 1)) (k : jT M l G d C Q X Φ (pc + 1) lv ((.int (x <<< (y &&& 31)) :: rest)) b) : jT M l G d C Q X Φ pc lv (.int y :: .int x :: rest) b := by
  obtain ⟨p, e, s, m, args, below, meth, c, F⟩ := X
  intro D H locs cells slots ls z1 z2 z3 z4 z5
  exact lv_ishl D.1 D.2.1 hdg (k D H locs cells slots ls z1 z2 z3 z4 z5)
theorem jlv_ishr {x y : Int32} (hdg : decode M.1 pc = .ok (.ishr, 1)) (k : jT M l G d C Q X Φ (pc + 1) lv ((.int (x >>> (y &&& 31)) :: rest)) b) : jT M l G d C Q X Φ pc lv (.int y :: .int x :: rest) b := by
  obtain ⟨p, e, s, m, args, below, meth, c, F⟩ := X
  intro D H locs cells slots ls z1 z2 z3 z4 z5
  exact lv_ishr D.1 D.2.1 hdg (k D H locs cells slots ls z1 z2 z3 z4 z5)
theorem jlv_i2l {x : Int32} {v : Int64} (hdg : decode M.1 pc = .ok (.i2l, 1)) (hv : x.toInt64 = v) (k : jT M l G d C Q X Φ (pc + 1) lv (.long v :: rest) b) : jT M l G d C Q X Φ pc lv (.int x :: rest) b := by
  obtain ⟨p, e, s, m, args, below, meth, c, F⟩ := X
  intro D H locs cells slots ls z1 z2 z3 z4 z5
  exact lv_i2l D.1 D.2.1 hdg hv (k D H locs cells slots ls z1 z2 z3 z4 z5)
theorem jlv_l2i {x : Int64} {v : Int32} (hdg : decode M.1 pc = .ok (.l2i, 1)) (hv : x.toInt32 = v) (k : jT M l G d C Q X Φ (pc + 1) lv (.int v :: rest) b) : jT M l G d C Q X Φ pc lv (.long x :: rest) b := by
  obtain ⟨p, e, s, m, args, below, meth, c, F⟩ := X
  intro D H locs cells slots ls z1 z2 z3 z4 z5
  exact lv_l2i D.1 D.2.1 hdg hv (k D H locs cells slots ls z1 z2 z3 z4 z5)
theorem jlv_i2b {x : Int32} {v : Int32} (hdg : decode M.1 pc = .ok (.i2b, 1)) (hv : x.toInt8.toInt32 = v) (k : jT M l G d C Q X Φ (pc + 1) lv (.int v :: rest) b) : jT M l G d C Q X Φ pc lv (.int x :: rest) b := by
  obtain ⟨p, e, s, m, args, below, meth, c, F⟩ := X
  intro D H locs cells slots ls z1 z2 z3 z4 z5
  exact lv_i2b D.1 D.2.1 hdg hv (k D H locs cells slots ls z1 z2 z3 z4 z5)
theorem jlv_i2s {x : Int32} {v : Int32} (hdg : decode M.1 pc = .ok (.i2s, 1)) (hv : x.toInt16.toInt32 = v) (k : jT M l G d C Q X Φ (pc + 1) lv (.int v :: rest) b) : jT M l G d C Q X Φ pc lv (.int x :: rest) b := by
  obtain ⟨p, e, s, m, args, below, meth, c, F⟩ := X
  intro D H locs cells slots ls z1 z2 z3 z4 z5
  exact lv_i2s D.1 D.2.1 hdg hv (k D H locs cells slots ls z1 z2 z3 z4 z5)
theorem jlv_i2c {x : Int32} {v : Int32} (hdg : decode M.1 pc = .ok (.i2c, 1)) (hv : (x.toUInt32 % 65536).toInt32 = v) (k : jT M l G d C Q X Φ (pc + 1) lv (.int v :: rest) b) : jT M l G d C Q X Φ pc lv (.int x :: rest) b := by
  obtain ⟨p, e, s, m, args, below, meth, c, F⟩ := X
  intro D H locs cells slots ls z1 z2 z3 z4 z5
  exact lv_i2c D.1 D.2.1 hdg hv (k D H locs cells slots ls z1 z2 z3 z4 z5)
theorem jlv_iushr {x y v : Int32} (hdg : decode M.1 pc = .ok (.iushr, 1)) (hv : (x.toUInt32 >>> (y.toUInt32 &&& Int32.toUInt32 31)).toInt32 = v) (k : jT M l G d C Q X Φ (pc + 1) lv (.int v :: rest) b) : jT M l G d C Q X Φ pc lv (.int y :: .int x :: rest) b := by
  obtain ⟨p, e, s, m, args, below, meth, c, F⟩ := X
  intro D H locs cells slots ls z1 z2 z3 z4 z5
  exact lv_iushr D.1 D.2.1 hdg hv (k D H locs cells slots ls z1 z2 z3 z4 z5)
theorem jlv_lushr {x v : Int64} {y : Int32} (hdg : decode M.1 pc = .ok (.lushr, 1)) (hv : (x.toUInt64 >>> (y.toInt64.toUInt64 &&& Int64.toUInt64 63)).toInt64 = v) (k : jT M l G d C Q X Φ (pc + 1) lv (.long v :: rest) b) : jT M l G d C Q X Φ pc lv (.int y :: .long x :: rest) b := by
  obtain ⟨p, e, s, m, args, below, meth, c, F⟩ := X
  intro D H locs cells slots ls z1 z2 z3 z4 z5
  exact lv_lushr D.1 D.2.1 hdg hv (k D H locs cells slots ls z1 z2 z3 z4 z5)
theorem jlv_lshl {x v : Int64} {y : Int32} (hdg : decode M.1 pc = .ok (.lshl, 1)) (hv : x <<< (y.toInt64 &&& 63) = v) (k : jT M l G d C Q X Φ (pc + 1) lv (.long v :: rest) b) : jT M l G d C Q X Φ pc lv (.int y :: .long x :: rest) b := by
  obtain ⟨p, e, s, m, args, below, meth, c, F⟩ := X
  intro D H locs cells slots ls z1 z2 z3 z4 z5
  exact lv_lshl D.1 D.2.1 hdg hv (k D H locs cells slots ls z1 z2 z3 z4 z5)
theorem jlv_lshr {x v : Int64} {y : Int32} (hdg : decode M.1 pc = .ok (.lshr, 1)) (hv : x >>> (y.toInt64 &&& 63) = v) (k : jT M l G d C Q X Φ (pc + 1) lv (.long v :: rest) b) : jT M l G d C Q X Φ pc lv (.int y :: .long x :: rest) b := by
  obtain ⟨p, e, s, m, args, below, meth, c, F⟩ := X
  intro D H locs cells slots ls z1 z2 z3 z4 z5
  exact lv_lshr D.1 D.2.1 hdg hv (k D H locs cells slots ls z1 z2 z3 z4 z5)
theorem jlv_dup {va : Value} (hdg : decode M.1 pc = .ok (.dup, 1)) (hva : va.category = 1) (k : jT M l G d C Q X Φ (pc + 1) lv (va :: va :: rest) b) : jT M l G d C Q X Φ pc lv (va :: rest) b := by
  obtain ⟨p, e, s, m, args, below, meth, c, F⟩ := X
  intro D H locs cells slots ls z1 z2 z3 z4 z5
  exact lv_dup D.1 D.2.1 hdg hva (k D H locs cells slots ls z1 z2 z3 z4 z5)
theorem jlv_pop {va : Value} (hdg : decode M.1 pc = .ok (.pop, 1)) (hva : va.category = 1) (k : jT M l G d C Q X Φ (pc + 1) lv (rest) b) : jT M l G d C Q X Φ pc lv (va :: rest) b := by
  obtain ⟨p, e, s, m, args, below, meth, c, F⟩ := X
  intro D H locs cells slots ls z1 z2 z3 z4 z5
  exact lv_pop D.1 D.2.1 hdg hva (k D H locs cells slots ls z1 z2 z3 z4 z5)
theorem jlv_dup_x1 {va vb : Value} (hdg : decode M.1 pc = .ok (.dup_x1, 1)) (hva : va.category = 1) (hvb : vb.category = 1) (k : jT M l G d C Q X Φ (pc + 1) lv (va :: vb :: va :: rest) b) : jT M l G d C Q X Φ pc lv (va :: vb :: rest) b := by
  obtain ⟨p, e, s, m, args, below, meth, c, F⟩ := X
  intro D H locs cells slots ls z1 z2 z3 z4 z5
  exact lv_dup_x1 D.1 D.2.1 hdg hva hvb (k D H locs cells slots ls z1 z2 z3 z4 z5)
theorem jlv_dup_x2 {va vb vd : Value} (hdg : decode M.1 pc = .ok (.dup_x2, 1)) (hva : va.category = 1) (hvb : vb.category = 1) (hvd : vd.category = 1) (k : jT M l G d C Q X Φ (pc + 1) lv (va :: vb :: vd :: va :: rest) b) : jT M l G d C Q X Φ pc lv (va :: vb :: vd :: rest) b := by
  obtain ⟨p, e, s, m, args, below, meth, c, F⟩ := X
  intro D H locs cells slots ls z1 z2 z3 z4 z5
  exact lv_dup_x2 D.1 D.2.1 hdg hva hvb hvd (k D H locs cells slots ls z1 z2 z3 z4 z5)
theorem jlv_dup2_11 {va vb : Value} (hdg : decode M.1 pc = .ok (.dup2, 1)) (hva : va.category = 1) (hvb : vb.category = 1) (k : jT M l G d C Q X Φ (pc + 1) lv (va :: vb :: va :: vb :: rest) b) : jT M l G d C Q X Φ pc lv (va :: vb :: rest) b := by
  obtain ⟨p, e, s, m, args, below, meth, c, F⟩ := X
  intro D H locs cells slots ls z1 z2 z3 z4 z5
  exact lv_dup2_11 D.1 D.2.1 hdg hva hvb (k D H locs cells slots ls z1 z2 z3 z4 z5)
theorem jlv_dup2_2 {va : Value} (hdg : decode M.1 pc = .ok (.dup2, 1)) (hva : va.category = 2) (k : jT M l G d C Q X Φ (pc + 1) lv (va :: va :: rest) b) : jT M l G d C Q X Φ pc lv (va :: rest) b := by
  obtain ⟨p, e, s, m, args, below, meth, c, F⟩ := X
  intro D H locs cells slots ls z1 z2 z3 z4 z5
  exact lv_dup2_2 D.1 D.2.1 hdg hva (k D H locs cells slots ls z1 z2 z3 z4 z5)
theorem jlv_pop2_2 {va : Value} (hdg : decode M.1 pc = .ok (.pop2, 1)) (hva : va.category = 2) (k : jT M l G d C Q X Φ (pc + 1) lv (rest) b) : jT M l G d C Q X Φ pc lv (va :: rest) b := by
  obtain ⟨p, e, s, m, args, below, meth, c, F⟩ := X
  intro D H locs cells slots ls z1 z2 z3 z4 z5
  exact lv_pop2_2 D.1 D.2.1 hdg hva (k D H locs cells slots ls z1 z2 z3 z4 z5)
theorem jlv_pop2_11 {va vb : Value} (hdg : decode M.1 pc = .ok (.pop2, 1)) (hva : va.category = 1) (hvb : vb.category = 1) (k : jT M l G d C Q X Φ (pc + 1) lv (rest) b) : jT M l G d C Q X Φ pc lv (va :: vb :: rest) b := by
  obtain ⟨p, e, s, m, args, below, meth, c, F⟩ := X
  intro D H locs cells slots ls z1 z2 z3 z4 z5
  exact lv_pop2_11 D.1 D.2.1 hdg hva hvb (k D H locs cells slots ls z1 z2 z3 z4 z5)
theorem jlv_dup2_x1_2 {va vb : Value} (hdg : decode M.1 pc = .ok (.dup2_x1, 1)) (hva : va.category = 2) (hvb : vb.category = 1) (k : jT M l G d C Q X Φ (pc + 1) lv (va :: vb :: va :: rest) b) : jT M l G d C Q X Φ pc lv (va :: vb :: rest) b := by
  obtain ⟨p, e, s, m, args, below, meth, c, F⟩ := X
  intro D H locs cells slots ls z1 z2 z3 z4 z5
  exact lv_dup2_x1_2 D.1 D.2.1 hdg hva hvb (k D H locs cells slots ls z1 z2 z3 z4 z5)
theorem jlv_dup2_x2_2 {va vb vd : Value} (hdg : decode M.1 pc = .ok (.dup2_x2, 1)) (hva : va.category = 2) (hvb : vb.category = 1) (hvd : vd.category = 1) (k : jT M l G d C Q X Φ (pc + 1) lv (va :: vb :: vd :: va :: rest) b) : jT M l G d C Q X Φ pc lv (va :: vb :: vd :: rest) b := by
  obtain ⟨p, e, s, m, args, below, meth, c, F⟩ := X
  intro D H locs cells slots ls z1 z2 z3 z4 z5
  exact lv_dup2_x2_2 D.1 D.2.1 hdg hva hvb hvd (k D H locs cells slots ls z1 z2 z3 z4 z5)
theorem jlv_if_eq {x : Int32} {off : Int} {tgt : Nat} (hdg : decode M.1 pc = .ok (.ifCond .eq off, 3)) (ht : (pc : Int) + off = (tgt : Int)) (kt : x = 0 → jT M l G d C Q X Φ tgt lv rest b) (kf : ¬ x = 0 → jT M l G d C Q X Φ (pc + 3) lv rest b) : jT M l G d C Q X Φ pc lv (.int x :: rest) b := by
  obtain ⟨p, e, s, m, args, below, meth, c, F⟩ := X
  intro D H locs cells slots ls z1 z2 z3 z4 z5
  exact lv_if_eq D.1 D.2.1 hdg ht (fun q => kt q D H locs cells slots ls z1 z2 z3 z4 z5) (fun q => kf q D H locs cells slots ls z1 z2 z3 z4 z5)
theorem jlv_icmp_eq {x y : Int32} {off : Int} {tgt : Nat} (hdg : decode M.1 pc = .ok (.if_icmp .eq off, 3)) (ht : (pc : Int) + off = (tgt : Int)) (kt : x = y → jT M l G d C Q X Φ tgt lv rest b) (kf : ¬ x = y → jT M l G d C Q X Φ (pc + 3) lv rest b) : jT M l G d C Q X Φ pc lv (.int y :: .int x :: rest) b := by
  obtain ⟨p, e, s, m, args, below, meth, c, F⟩ := X
  intro D H locs cells slots ls z1 z2 z3 z4 z5
  exact lv_icmp_eq D.1 D.2.1 hdg ht (fun q => kt q D H locs cells slots ls z1 z2 z3 z4 z5) (fun q => kf q D H locs cells slots ls z1 z2 z3 z4 z5)
theorem jlv_if_ne {x : Int32} {off : Int} {tgt : Nat} (hdg : decode M.1 pc = .ok (.ifCond .ne off, 3)) (ht : (pc : Int) + off = (tgt : Int)) (kt : ¬ x = 0 → jT M l G d C Q X Φ tgt lv rest b) (kf : x = 0 → jT M l G d C Q X Φ (pc + 3) lv rest b) : jT M l G d C Q X Φ pc lv (.int x :: rest) b := by
  obtain ⟨p, e, s, m, args, below, meth, c, F⟩ := X
  intro D H locs cells slots ls z1 z2 z3 z4 z5
  exact lv_if_ne D.1 D.2.1 hdg ht (fun q => kt q D H locs cells slots ls z1 z2 z3 z4 z5) (fun q => kf q D H locs cells slots ls z1 z2 z3 z4 z5)
theorem jlv_icmp_ne {x y : Int32} {off : Int} {tgt : Nat} (hdg : decode M.1 pc = .ok (.if_icmp .ne off, 3)) (ht : (pc : Int) + off = (tgt : Int)) (kt : ¬ x = y → jT M l G d C Q X Φ tgt lv rest b) (kf : x = y → jT M l G d C Q X Φ (pc + 3) lv rest b) : jT M l G d C Q X Φ pc lv (.int y :: .int x :: rest) b := by
  obtain ⟨p, e, s, m, args, below, meth, c, F⟩ := X
  intro D H locs cells slots ls z1 z2 z3 z4 z5
  exact lv_icmp_ne D.1 D.2.1 hdg ht (fun q => kt q D H locs cells slots ls z1 z2 z3 z4 z5) (fun q => kf q D H locs cells slots ls z1 z2 z3 z4 z5)
theorem jlv_if_lt {x : Int32} {off : Int} {tgt : Nat} (hdg : decode M.1 pc = .ok (.ifCond .lt off, 3)) (ht : (pc : Int) + off = (tgt : Int)) (kt : x < 0 → jT M l G d C Q X Φ tgt lv rest b) (kf : ¬ x < 0 → jT M l G d C Q X Φ (pc + 3) lv rest b) : jT M l G d C Q X Φ pc lv (.int x :: rest) b := by
  obtain ⟨p, e, s, m, args, below, meth, c, F⟩ := X
  intro D H locs cells slots ls z1 z2 z3 z4 z5
  exact lv_if_lt D.1 D.2.1 hdg ht (fun q => kt q D H locs cells slots ls z1 z2 z3 z4 z5) (fun q => kf q D H locs cells slots ls z1 z2 z3 z4 z5)
theorem jlv_icmp_lt {x y : Int32} {off : Int} {tgt : Nat} (hdg : decode M.1 pc = .ok (.if_icmp .lt off, 3)) (ht : (pc : Int) + off = (tgt : Int)) (kt : x < y → jT M l G d C Q X Φ tgt lv rest b) (kf : ¬ x < y → jT M l G d C Q X Φ (pc + 3) lv rest b) : jT M l G d C Q X Φ pc lv (.int y :: .int x :: rest) b := by
  obtain ⟨p, e, s, m, args, below, meth, c, F⟩ := X
  intro D H locs cells slots ls z1 z2 z3 z4 z5
  exact lv_icmp_lt D.1 D.2.1 hdg ht (fun q => kt q D H locs cells slots ls z1 z2 z3 z4 z5) (fun q => kf q D H locs cells slots ls z1 z2 z3 z4 z5)
theorem jlv_if_ge {x : Int32} {off : Int} {tgt : Nat} (hdg : decode M.1 pc = .ok (.ifCond .ge off, 3)) (ht : (pc : Int) + off = (tgt : Int)) (kt : 0 ≤ x → jT M l G d C Q X Φ tgt lv rest b) (kf : ¬ 0 ≤ x → jT M l G d C Q X Φ (pc + 3) lv rest b) : jT M l G d C Q X Φ pc lv (.int x :: rest) b := by
  obtain ⟨p, e, s, m, args, below, meth, c, F⟩ := X
  intro D H locs cells slots ls z1 z2 z3 z4 z5
  exact lv_if_ge D.1 D.2.1 hdg ht (fun q => kt q D H locs cells slots ls z1 z2 z3 z4 z5) (fun q => kf q D H locs cells slots ls z1 z2 z3 z4 z5)
theorem jlv_icmp_ge {x y : Int32} {off : Int} {tgt : Nat} (hdg : decode M.1 pc = .ok (.if_icmp .ge off, 3)) (ht : (pc : Int) + off = (tgt : Int)) (kt : y ≤ x → jT M l G d C Q X Φ tgt lv rest b) (kf : ¬ y ≤ x → jT M l G d C Q X Φ (pc + 3) lv rest b) : jT M l G d C Q X Φ pc lv (.int y :: .int x :: rest) b := by
  obtain ⟨p, e, s, m, args, below, meth, c, F⟩ := X
  intro D H locs cells slots ls z1 z2 z3 z4 z5
  exact lv_icmp_ge D.1 D.2.1 hdg ht (fun q => kt q D H locs cells slots ls z1 z2 z3 z4 z5) (fun q => kf q D H locs cells slots ls z1 z2 z3 z4 z5)
theorem jlv_if_gt {x : Int32} {off : Int} {tgt : Nat} (hdg : decode M.1 pc = .ok (.ifCond .gt off, 3)) (ht : (pc : Int) + off = (tgt : Int)) (kt : 0 < x → jT M l G d C Q X Φ tgt lv rest b) (kf : ¬ 0 < x → jT M l G d C Q X Φ (pc + 3) lv rest b) : jT M l G d C Q X Φ pc lv (.int x :: rest) b := by
  obtain ⟨p, e, s, m, args, below, meth, c, F⟩ := X
  intro D H locs cells slots ls z1 z2 z3 z4 z5
  exact lv_if_gt D.1 D.2.1 hdg ht (fun q => kt q D H locs cells slots ls z1 z2 z3 z4 z5) (fun q => kf q D H locs cells slots ls z1 z2 z3 z4 z5)
theorem jlv_icmp_gt {x y : Int32} {off : Int} {tgt : Nat} (hdg : decode M.1 pc = .ok (.if_icmp .gt off, 3)) (ht : (pc : Int) + off = (tgt : Int)) (kt : y < x → jT M l G d C Q X Φ tgt lv rest b) (kf : ¬ y < x → jT M l G d C Q X Φ (pc + 3) lv rest b) : jT M l G d C Q X Φ pc lv (.int y :: .int x :: rest) b := by
  obtain ⟨p, e, s, m, args, below, meth, c, F⟩ := X
  intro D H locs cells slots ls z1 z2 z3 z4 z5
  exact lv_icmp_gt D.1 D.2.1 hdg ht (fun q => kt q D H locs cells slots ls z1 z2 z3 z4 z5) (fun q => kf q D H locs cells slots ls z1 z2 z3 z4 z5)
theorem jlv_if_le {x : Int32} {off : Int} {tgt : Nat} (hdg : decode M.1 pc = .ok (.ifCond .le off, 3)) (ht : (pc : Int) + off = (tgt : Int)) (kt : x ≤ 0 → jT M l G d C Q X Φ tgt lv rest b) (kf : ¬ x ≤ 0 → jT M l G d C Q X Φ (pc + 3) lv rest b) : jT M l G d C Q X Φ pc lv (.int x :: rest) b := by
  obtain ⟨p, e, s, m, args, below, meth, c, F⟩ := X
  intro D H locs cells slots ls z1 z2 z3 z4 z5
  exact lv_if_le D.1 D.2.1 hdg ht (fun q => kt q D H locs cells slots ls z1 z2 z3 z4 z5) (fun q => kf q D H locs cells slots ls z1 z2 z3 z4 z5)
theorem jlv_icmp_le {x y : Int32} {off : Int} {tgt : Nat} (hdg : decode M.1 pc = .ok (.if_icmp .le off, 3)) (ht : (pc : Int) + off = (tgt : Int)) (kt : x ≤ y → jT M l G d C Q X Φ tgt lv rest b) (kf : ¬ x ≤ y → jT M l G d C Q X Φ (pc + 3) lv rest b) : jT M l G d C Q X Φ pc lv (.int y :: .int x :: rest) b := by
  obtain ⟨p, e, s, m, args, below, meth, c, F⟩ := X
  intro D H locs cells slots ls z1 z2 z3 z4 z5
  exact lv_icmp_le D.1 D.2.1 hdg ht (fun q => kt q D H locs cells slots ls z1 z2 z3 z4 z5) (fun q => kf q D H locs cells slots ls z1 z2 z3 z4 z5)
theorem jlv_goto {off : Int} {tgt : Nat} (hdg : decode M.1 pc = .ok (.goto off, 3)) (ht : (pc : Int) + off = (tgt : Int)) (k : jT M l G d C Q X Φ tgt lv rest b) : jT M l G d C Q X Φ pc lv rest b := by
  obtain ⟨p, e, s, m, args, below, meth, c, F⟩ := X
  intro D H locs cells slots ls z1 z2 z3 z4 z5
  exact lv_goto D.1 D.2.1 hdg ht (k D H locs cells slots ls z1 z2 z3 z4 z5)
theorem jlv_fconst0 (hdg : decode M.1 pc = .ok (.fconst 0, 1)) (k : jT M l G d C Q X Φ (pc + 1) lv (.float FP.fconst0 :: rest) b) : jT M l G d C Q X Φ pc lv (rest) b := by
  obtain ⟨p, e, s, m, args, below, meth, c, F⟩ := X
  intro D H locs cells slots ls z1 z2 z3 z4 z5
  exact lv_fconst0 D.1 D.2.1 hdg (k D H locs cells slots ls z1 z2 z3 z4 z5)
theorem jlv_fconst1 (hdg : decode M.1 pc = .ok (.fconst 1, 1)) (k : jT M l G d C Q X Φ (pc + 1) lv (.float FP.fconst1 :: rest) b) : jT M l G d C Q X Φ pc lv (rest) b := by
  obtain ⟨p, e, s, m, args, below, meth, c, F⟩ := X
  intro D H locs cells slots ls z1 z2 z3 z4 z5
  exact lv_fconst1 D.1 D.2.1 hdg (k D H locs cells slots ls z1 z2 z3 z4 z5)
theorem jlv_fconst2 (hdg : decode M.1 pc = .ok (.fconst 2, 1)) (k : jT M l G d C Q X Φ (pc + 1) lv (.float FP.fconst2 :: rest) b) : jT M l G d C Q X Φ pc lv (rest) b := by
  obtain ⟨p, e, s, m, args, below, meth, c, F⟩ := X
  intro D H locs cells slots ls z1 z2 z3 z4 z5
  exact lv_fconst2 D.1 D.2.1 hdg (k D H locs cells slots ls z1 z2 z3 z4 z5)
theorem jlv_dconst0 (hdg : decode M.1 pc = .ok (.dconst 0, 1)) (k : jT M l G d C Q X Φ (pc + 1) lv (.double FP.dconst0 :: rest) b) : jT M l G d C Q X Φ pc lv (rest) b := by
  obtain ⟨p, e, s, m, args, below, meth, c, F⟩ := X
  intro D H locs cells slots ls z1 z2 z3 z4 z5
  exact lv_dconst0 D.1 D.2.1 hdg (k D H locs cells slots ls z1 z2 z3 z4 z5)
theorem jlv_dconst1 (hdg : decode M.1 pc = .ok (.dconst 1, 1)) (k : jT M l G d C Q X Φ (pc + 1) lv (.double FP.dconst1 :: rest) b) : jT M l G d C Q X Φ pc lv (rest) b := by
  obtain ⟨p, e, s, m, args, below, meth, c, F⟩ := X
  intro D H locs cells slots ls z1 z2 z3 z4 z5
  exact lv_dconst1 D.1 D.2.1 hdg (k D H locs cells slots ls z1 z2 z3 z4 z5)
theorem jlv_fload_n {k : Fin 4} {i : Nat} {x : UInt32} (hdg : decode M.1 pc = .ok (.fload_n k, 1)) (hi : (k : Nat) = i) (nhl : Nat) (hl : lv[nhl]? = some (i, (.float x))) (k : jT M l G d C Q X Φ (pc + 1) lv (.float x :: rest) b) : jT M l G d C Q X Φ pc lv (rest) b := by
  obtain ⟨p, e, s, m, args, below, meth, c, F⟩ := X
  intro D H locs cells slots ls z1 z2 z3 z4 z5
  exact lv_fload_n D.1 D.2.1 hdg hi (lv_at z5 nhl hl) (k D H locs cells slots ls z1 z2 z3 z4 z5)
theorem jlv_fload {i : Nat} {x : UInt32} (hdg : decode M.1 pc = .ok (.fload i, 2)) (nhl : Nat) (hl : lv[nhl]? = some (i, (.float x))) (k : jT M l G d C Q X Φ (pc + 2) lv (.float x :: rest) b) : jT M l G d C Q X Φ pc lv (rest) b := by
  obtain ⟨p, e, s, m, args, below, meth, c, F⟩ := X
  intro D H locs cells slots ls z1 z2 z3 z4 z5
  exact lv_fload D.1 D.2.1 hdg (lv_at z5 nhl hl) (k D H locs cells slots ls z1 z2 z3 z4 z5)
theorem jlv_fadd {x y : UInt32} (hdg : decode M.1 pc = .ok (.fadd, 1)) (hne : vf_n32 (FP.fadd x y)) (k : jT M l G d C Q X Φ (pc + 1) lv ((.float (FP.fadd x y) :: rest)) b) : jT M l G d C Q X Φ pc lv (.float y :: .float x :: rest) b := by
  obtain ⟨p, e, s, m, args, below, meth, c, F⟩ := X
  intro D H locs cells slots ls z1 z2 z3 z4 z5
  exact lv_fadd D.1 D.2.1 hdg hne (k D H locs cells slots ls z1 z2 z3 z4 z5)
theorem jlv_fsub {x y : UInt32} (hdg : decode M.1 pc = .ok (.fsub, 1)) (hne : vf_n32 (FP.fsub x y)) (k : jT M l G d C Q X Φ (pc + 1) lv ((.float (FP.fsub x y) :: rest)) b) : jT M l G d C Q X Φ pc lv (.float y :: .float x :: rest) b := by
  obtain ⟨p, e, s, m, args, below, meth, c, F⟩ := X
  intro D H locs cells slots ls z1 z2 z3 z4 z5
  exact lv_fsub D.1 D.2.1 hdg hne (k D H locs cells slots ls z1 z2 z3 z4 z5)
theorem jlv_fmul {x y : UInt32} (hdg : decode M.1 pc = .ok (.fmul, 1)) (hne : vf_n32 (FP.fmul x y)) (k : jT M l G d C Q X Φ (pc + 1) lv ((.float (FP.fmul x y) :: rest)) b) : jT M l G d C Q X Φ pc lv (.float y :: .float x :: rest) b := by
  obtain ⟨p, e, s, m, args, below, meth, c, F⟩ := X
  intro D H locs cells slots ls z1 z2 z3 z4 z5
  exact lv_fmul D.1 D.2.1 hdg hne (k D H locs cells slots ls z1 z2 z3 z4 z5)
theorem jlv_fdiv {x y : UInt32} (hdg : decode M.1 pc = .ok (.fdiv, 1)) (hne : vf_n32 (FP.fdiv x y)) (k : jT M l G d C Q X Φ (pc + 1) lv ((.float (FP.fdiv x y) :: rest)) b) : jT M l G d C Q X Φ pc lv (.float y :: .float x :: rest) b := by
  obtain ⟨p, e, s, m, args, below, meth, c, F⟩ := X
  intro D H locs cells slots ls z1 z2 z3 z4 z5
  exact lv_fdiv D.1 D.2.1 hdg hne (k D H locs cells slots ls z1 z2 z3 z4 z5)
theorem jlv_frem {x y : UInt32} (hdg : decode M.1 pc = .ok (.frem, 1)) (hne : vf_n32 (FP.frem x y)) (k : jT M l G d C Q X Φ (pc + 1) lv ((.float (FP.frem x y) :: rest)) b) : jT M l G d C Q X Φ pc lv (.float y :: .float x :: rest) b := by
  obtain ⟨p, e, s, m, args, below, meth, c, F⟩ := X
  intro D H locs cells slots ls z1 z2 z3 z4 z5
  exact lv_frem D.1 D.2.1 hdg hne (k D H locs cells slots ls z1 z2 z3 z4 z5)
theorem jlv_fneg {x : UInt32} (hdg : decode M.1 pc = .ok (.fneg, 1)) (k : jT M l G d C Q X Φ (pc + 1) lv ((.float (FP.fneg x) :: rest)) b) : jT M l G d C Q X Φ pc lv (.float x :: rest) b := by
  obtain ⟨p, e, s, m, args, below, meth, c, F⟩ := X
  intro D H locs cells slots ls z1 z2 z3 z4 z5
  exact lv_fneg D.1 D.2.1 hdg (k D H locs cells slots ls z1 z2 z3 z4 z5)
theorem jlv_fcmp {x y : UInt32} {op : CmpOp} (hdg : decode M.1 pc = .ok (.fcmp op, 1)) (k : jT M l G d C Q X Φ (pc + 1) lv ((.int (Op.cmpValue (FP.fcmp x y) op) :: rest)) b) : jT M l G d C Q X Φ pc lv (.float y :: .float x :: rest) b := by
  obtain ⟨p, e, s, m, args, below, meth, c, F⟩ := X
  intro D H locs cells slots ls z1 z2 z3 z4 z5
  exact lv_fcmp D.1 D.2.1 hdg (k D H locs cells slots ls z1 z2 z3 z4 z5)
theorem jlv_i2f {x : Int32} (hdg : decode M.1 pc = .ok (.i2f, 1)) (k : jT M l G d C Q X Φ (pc + 1) lv ((.float (FP.i2f x) :: rest)) b) : jT M l G d C Q X Φ pc lv (.int x :: rest) b := by
  obtain ⟨p, e, s, m, args, below, meth, c, F⟩ := X
  intro D H locs cells slots ls z1 z2 z3 z4 z5
  exact lv_i2f D.1 D.2.1 hdg (k D H locs cells slots ls z1 z2 z3 z4 z5)
theorem jlv_l2f {x : Int64} (hdg : decode M.1 pc = .ok (.l2f, 1)) (k : jT M l G d C Q X Φ (pc + 1) lv ((.float (FP.l2f x) :: rest)) b) : jT M l G d C Q X Φ pc lv (.long x :: rest) b := by
  obtain ⟨p, e, s, m, args, below, meth, c, F⟩ := X
  intro D H locs cells slots ls z1 z2 z3 z4 z5
  exact lv_l2f D.1 D.2.1 hdg (k D H locs cells slots ls z1 z2 z3 z4 z5)
theorem jlv_f2i {x : UInt32} (hdg : decode M.1 pc = .ok (.f2i, 1)) (k : jT M l G d C Q X Φ (pc + 1) lv ((.int (FP.f2i x) :: rest)) b) : jT M l G d C Q X Φ pc lv (.float x :: rest) b := by
  obtain ⟨p, e, s, m, args, below, meth, c, F⟩ := X
  intro D H locs cells slots ls z1 z2 z3 z4 z5
  exact lv_f2i D.1 D.2.1 hdg (k D H locs cells slots ls z1 z2 z3 z4 z5)
theorem jlv_f2l {x : UInt32} (hdg : decode M.1 pc = .ok (.f2l, 1)) (k : jT M l G d C Q X Φ (pc + 1) lv ((.long (FP.f2l x) :: rest)) b) : jT M l G d C Q X Φ pc lv (.float x :: rest) b := by
  obtain ⟨p, e, s, m, args, below, meth, c, F⟩ := X
  intro D H locs cells slots ls z1 z2 z3 z4 z5
  exact lv_f2l D.1 D.2.1 hdg (k D H locs cells slots ls z1 z2 z3 z4 z5)
theorem jlv_dload_n {k : Fin 4} {i : Nat} {x : UInt64} (hdg : decode M.1 pc = .ok (.dload_n k, 1)) (hi : (k : Nat) = i) (nhl : Nat) (hl : lv[nhl]? = some (i, (.double x))) (k : jT M l G d C Q X Φ (pc + 1) lv (.double x :: rest) b) : jT M l G d C Q X Φ pc lv (rest) b := by
  obtain ⟨p, e, s, m, args, below, meth, c, F⟩ := X
  intro D H locs cells slots ls z1 z2 z3 z4 z5
  exact lv_dload_n D.1 D.2.1 hdg hi (lv_at z5 nhl hl) (k D H locs cells slots ls z1 z2 z3 z4 z5)
theorem jlv_dload {i : Nat} {x : UInt64} (hdg : decode M.1 pc = .ok (.dload i, 2)) (nhl : Nat) (hl : lv[nhl]? = some (i, (.double x))) (k : jT M l G d C Q X Φ (pc + 2) lv (.double x :: rest) b) : jT M l G d C Q X Φ pc lv (rest) b := by
  obtain ⟨p, e, s, m, args, below, meth, c, F⟩ := X
  intro D H locs cells slots ls z1 z2 z3 z4 z5
  exact lv_dload D.1 D.2.1 hdg (lv_at z5 nhl hl) (k D H locs cells slots ls z1 z2 z3 z4 z5)
theorem jlv_dadd {x y : UInt64} (hdg : decode M.1 pc = .ok (.dadd, 1)) (hne : vf_n64 (FP.dadd x y)) (k : jT M l G d C Q X Φ (pc + 1) lv ((.double (FP.dadd x y) :: rest)) b) : jT M l G d C Q X Φ pc lv (.double y :: .double x :: rest) b := by
  obtain ⟨p, e, s, m, args, below, meth, c, F⟩ := X
  intro D H locs cells slots ls z1 z2 z3 z4 z5
  exact lv_dadd D.1 D.2.1 hdg hne (k D H locs cells slots ls z1 z2 z3 z4 z5)
theorem jlv_dsub {x y : UInt64} (hdg : decode M.1 pc = .ok (.dsub, 1)) (hne : vf_n64 (FP.dsub x y)) (k : jT M l G d C Q X Φ (pc + 1) lv ((.double (FP.dsub x y) :: rest)) b) : jT M l G d C Q X Φ pc lv (.double y :: .double x :: rest) b := by
  obtain ⟨p, e, s, m, args, below, meth, c, F⟩ := X
  intro D H locs cells slots ls z1 z2 z3 z4 z5
  exact lv_dsub D.1 D.2.1 hdg hne (k D H locs cells slots ls z1 z2 z3 z4 z5)
theorem jlv_dmul {x y : UInt64} (hdg : decode M.1 pc = .ok (.dmul, 1)) (hne : vf_n64 (FP.dmul x y)) (k : jT M l G d C Q X Φ (pc + 1) lv ((.double (FP.dmul x y) :: rest)) b) : jT M l G d C Q X Φ pc lv (.double y :: .double x :: rest) b := by
  obtain ⟨p, e, s, m, args, below, meth, c, F⟩ := X
  intro D H locs cells slots ls z1 z2 z3 z4 z5
  exact lv_dmul D.1 D.2.1 hdg hne (k D H locs cells slots ls z1 z2 z3 z4 z5)
theorem jlv_ddiv {x y : UInt64} (hdg : decode M.1 pc = .ok (.ddiv, 1)) (hne : vf_n64 (FP.ddiv x y)) (k : jT M l G d C Q X Φ (pc + 1) lv ((.double (FP.ddiv x y) :: rest)) b) : jT M l G d C Q X Φ pc lv (.double y :: .double x :: rest) b := by
  obtain ⟨p, e, s, m, args, below, meth, c, F⟩ := X
  intro D H locs cells slots ls z1 z2 z3 z4 z5
  exact lv_ddiv D.1 D.2.1 hdg hne (k D H locs cells slots ls z1 z2 z3 z4 z5)
theorem jlv_drem {x y : UInt64} (hdg : decode M.1 pc = .ok (.drem, 1)) (hne : vf_n64 (FP.drem x y)) (k : jT M l G d C Q X Φ (pc + 1) lv ((.double (FP.drem x y) :: rest)) b) : jT M l G d C Q X Φ pc lv (.double y :: .double x :: rest) b := by
  obtain ⟨p, e, s, m, args, below, meth, c, F⟩ := X
  intro D H locs cells slots ls z1 z2 z3 z4 z5
  exact lv_drem D.1 D.2.1 hdg hne (k D H locs cells slots ls z1 z2 z3 z4 z5)
theorem jlv_dneg {x : UInt64} (hdg : decode M.1 pc = .ok (.dneg, 1)) (k : jT M l G d C Q X Φ (pc + 1) lv ((.double (FP.dneg x) :: rest)) b) : jT M l G d C Q X Φ pc lv (.double x :: rest) b := by
  obtain ⟨p, e, s, m, args, below, meth, c, F⟩ := X
  intro D H locs cells slots ls z1 z2 z3 z4 z5
  exact lv_dneg D.1 D.2.1 hdg (k D H locs cells slots ls z1 z2 z3 z4 z5)
theorem jlv_dcmp {x y : UInt64} {op : CmpOp} (hdg : decode M.1 pc = .ok (.dcmp op, 1)) (k : jT M l G d C Q X Φ (pc + 1) lv ((.int (Op.cmpValue (FP.dcmp x y) op) :: rest)) b) : jT M l G d C Q X Φ pc lv (.double y :: .double x :: rest) b := by
  obtain ⟨p, e, s, m, args, below, meth, c, F⟩ := X
  intro D H locs cells slots ls z1 z2 z3 z4 z5
  exact lv_dcmp D.1 D.2.1 hdg (k D H locs cells slots ls z1 z2 z3 z4 z5)
theorem jlv_i2d {x : Int32} (hdg : decode M.1 pc = .ok (.i2d, 1)) (k : jT M l G d C Q X Φ (pc + 1) lv ((.double (FP.i2d x) :: rest)) b) : jT M l G d C Q X Φ pc lv (.int x :: rest) b := by
  obtain ⟨p, e, s, m, args, below, meth, c, F⟩ := X
  intro D H locs cells slots ls z1 z2 z3 z4 z5
  exact lv_i2d D.1 D.2.1 hdg (k D H locs cells slots ls z1 z2 z3 z4 z5)
theorem jlv_l2d {x : Int64} (hdg : decode M.1 pc = .ok (.l2d, 1)) (k : jT M l G d C Q X Φ (pc + 1) lv ((.double (FP.l2d x) :: rest)) b) : jT M l G d C Q X Φ pc lv (.long x :: rest) b := by
  obtain ⟨p, e, s, m, args, below, meth, c, F⟩ := X
  intro D H locs cells slots ls z1 z2 z3 z4 z5
  exact lv_l2d D.1 D.2.1 hdg (k D H locs cells slots ls z1 z2 z3 z4 z5)
theorem jlv_d2i {x : UInt64} (hdg : decode M.1 pc = .ok (.d2i, 1)) (k : jT M l G d C Q X Φ (pc + 1) lv ((.int (FP.d2i x) :: rest)) b) : jT M l G d C Q X Φ pc lv (.double x :: rest) b := by
  obtain ⟨p, e, s, m, args, below, meth, c, F⟩ := X
  intro D H locs cells slots ls z1 z2 z3 z4 z5
  exact lv_d2i D.1 D.2.1 hdg (k D H locs cells slots ls z1 z2 z3 z4 z5)
theorem jlv_d2l {x : UInt64} (hdg : decode M.1 pc = .ok (.d2l, 1)) (k : jT M l G d C Q X Φ (pc + 1) lv ((.long (FP.d2l x) :: rest)) b) : jT M l G d C Q X Φ pc lv (.double x :: rest) b := by
  obtain ⟨p, e, s, m, args, below, meth, c, F⟩ := X
  intro D H locs cells slots ls z1 z2 z3 z4 z5
  exact lv_d2l D.1 D.2.1 hdg (k D H locs cells slots ls z1 z2 z3 z4 z5)
theorem jlv_f2d {x : UInt32} (hdg : decode M.1 pc = .ok (.f2d, 1)) (hne : vf_n64 (FP.f2d x)) (k : jT M l G d C Q X Φ (pc + 1) lv ((.double (FP.f2d x) :: rest)) b) : jT M l G d C Q X Φ pc lv (.float x :: rest) b := by
  obtain ⟨p, e, s, m, args, below, meth, c, F⟩ := X
  intro D H locs cells slots ls z1 z2 z3 z4 z5
  exact lv_f2d D.1 D.2.1 hdg hne (k D H locs cells slots ls z1 z2 z3 z4 z5)
theorem jlv_d2f {x : UInt64} (hdg : decode M.1 pc = .ok (.d2f, 1)) (hne : vf_n32 (FP.d2f x)) (k : jT M l G d C Q X Φ (pc + 1) lv ((.float (FP.d2f x) :: rest)) b) : jT M l G d C Q X Φ pc lv (.double x :: rest) b := by
  obtain ⟨p, e, s, m, args, below, meth, c, F⟩ := X
  intro D H locs cells slots ls z1 z2 z3 z4 z5
  exact lv_d2f D.1 D.2.1 hdg hne (k D H locs cells slots ls z1 z2 z3 z4 z5)
theorem jlv_fstore_n {k : Fin 4} {i : Nat} {x : UInt32}  (hdg : decode M.1 pc = .ok (.fstore_n k, 1)) (hi : (k : Nat) = i) (hn : i < M.2.2.1) (hl : (i, Value.float x) :: lv.filter (fun q => !(q.1 == i) && !(q.1 + 1 == i && q.2.category == 2)) = lv') (kk : jT M l G d C Q X Φ (pc + 1) lv' rest b) : jT M l G d C Q X Φ pc lv (.float x :: rest) b := by
  obtain ⟨p, e, s, m, args, below, meth, c, F⟩ := X
  intro D H locs cells slots ls z1 z2 z3 z4 z5
  exact lv_fstore_n D.1 D.2.1 hdg hi z5 hn hl (fun ls' h' => kk D H locs cells slots ls' z1 z2 z3 z4 h')
theorem jlv_fstore {i : Nat} {x : UInt32}  (hdg : decode M.1 pc = .ok (.fstore i, 2)) (hn : i < M.2.2.1) (hl : (i, Value.float x) :: lv.filter (fun q => !(q.1 == i) && !(q.1 + 1 == i && q.2.category == 2)) = lv') (kk : jT M l G d C Q X Φ (pc + 2) lv' rest b) : jT M l G d C Q X Φ pc lv (.float x :: rest) b := by
  obtain ⟨p, e, s, m, args, below, meth, c, F⟩ := X
  intro D H locs cells slots ls z1 z2 z3 z4 z5
  exact lv_fstore D.1 D.2.1 hdg z5 hn hl (fun ls' h' => kk D H locs cells slots ls' z1 z2 z3 z4 h')
theorem jlv_dstore_n {k : Fin 4} {i : Nat} {x : UInt64}  (hdg : decode M.1 pc = .ok (.dstore_n k, 1)) (hi : (k : Nat) = i) (hn : i + 1 < M.2.2.1) (hl : (i, Value.double x) :: lv.filter (fun q => !(q.1 == i) && (!(q.1 == i + 1) && !(q.1 + 1 == i && q.2.category == 2))) = lv') (kk : jT M l G d C Q X Φ (pc + 1) lv' rest b) : jT M l G d C Q X Φ pc lv (.double x :: rest) b := by
  obtain ⟨p, e, s, m, args, below, meth, c, F⟩ := X
  intro D H locs cells slots ls z1 z2 z3 z4 z5
  exact lv_dstore_n D.1 D.2.1 hdg hi z5 hn hl (fun ls' h' => kk D H locs cells slots ls' z1 z2 z3 z4 h')
theorem jlv_dstore {i : Nat} {x : UInt64}  (hdg : decode M.1 pc = .ok (.dstore i, 2)) (hn : i + 1 < M.2.2.1) (hl : (i, Value.double x) :: lv.filter (fun q => !(q.1 == i) && (!(q.1 == i + 1) && !(q.1 + 1 == i && q.2.category == 2))) = lv') (kk : jT M l G d C Q X Φ (pc + 2) lv' rest b) : jT M l G d C Q X Φ pc lv (.double x :: rest) b := by
  obtain ⟨p, e, s, m, args, below, meth, c, F⟩ := X
  intro D H locs cells slots ls z1 z2 z3 z4 z5
  exact lv_dstore D.1 D.2.1 hdg z5 hn hl (fun ls' h' => kk D H locs cells slots ls' z1 z2 z3 z4 h')
theorem jlv_ldcf {index : Nat} {v : UInt32} (hconst : Jvm.Cond.constantFloat M.2.1 index v ∈ lw_all) (hdg : decode M.1 pc = .ok (.ldc index, 2)) (k : jT M l G d C Q X Φ (pc + 2) lv (.float v :: rest) b) : jT M l G d C Q X Φ pc lv rest b := by
  obtain ⟨p, e, s, m, args, below, meth, c, F⟩ := X
  intro D H locs cells slots ls z1 z2 z3 z4 z5
  exact lv_ldcf D.1 D.2.1 D.2.2.2.1 (D.2.2.2.2.2.2.1 _ hconst) hdg (k D H locs cells slots ls z1 z2 z3 z4 z5)
theorem jlv_ldc2d {index : Nat} {v : UInt64} (hconst : Jvm.Cond.constantDouble M.2.1 index v ∈ lw_all) (hdg : decode M.1 pc = .ok (.ldc2_w index, 3)) (k : jT M l G d C Q X Φ (pc + 3) lv (.double v :: rest) b) : jT M l G d C Q X Φ pc lv rest b := by
  obtain ⟨p, e, s, m, args, below, meth, c, F⟩ := X
  intro D H locs cells slots ls z1 z2 z3 z4 z5
  exact lv_ldc2d D.1 D.2.1 D.2.2.2.1 (D.2.2.2.2.2.2.1 _ hconst) hdg (k D H locs cells slots ls z1 z2 z3 z4 z5)
theorem jlv_lookup {dflt : Int} {ps : Array (Int × Int)} {len : Nat} {x : Int32} {off : Int} {tgt : Nat} (hdg : decode M.1 pc = .ok (.lookupswitch dflt ps, len)) (hp : (ps.toList.zip (ps.toList.drop 1)).all (fun (a, next) => a.1 < next.1) = true) (ho : Op.lookupswitch.offset ps.toList dflt x.toInt = off) (ht : (pc : Int) + off = (tgt : Int)) (k : jT M l G d C Q X Φ tgt lv rest b) : jT M l G d C Q X Φ pc lv (.int x :: rest) b := by
  obtain ⟨p, e, s, m, args, below, meth, c, F⟩ := X
  intro D H locs cells slots ls z1 z2 z3 z4 z5
  exact lv_lookup D.1 D.2.1 hdg hp ho ht (k D H locs cells slots ls z1 z2 z3 z4 z5)
theorem jlv_tableOut {dflt lo hi : Int} {offs : Array Int} {len : Nat} {x : Int32} {tgt : Nat} (hdg : decode M.1 pc = .ok (.tableswitch dflt lo hi offs, len)) (h : x.toInt < lo ∨ hi < x.toInt) (ht : (pc : Int) + dflt = (tgt : Int)) (k : jT M l G d C Q X Φ tgt lv rest b) : jT M l G d C Q X Φ pc lv (.int x :: rest) b := by
  obtain ⟨p, e, s, m, args, below, meth, c, F⟩ := X
  intro D H locs cells slots ls z1 z2 z3 z4 z5
  exact lv_tableOut D.1 D.2.1 hdg h ht (k D H locs cells slots ls z1 z2 z3 z4 z5)
theorem jlv_tableIn {dflt lo hi : Int} {offs : Array Int} {len : Nat} {x : Int32} {off : Int} {tgt : Nat} (hdg : decode M.1 pc = .ok (.tableswitch dflt lo hi offs, len)) (h1 : ¬ x.toInt < lo) (h2 : ¬ hi < x.toInt) (ho : offs[(x.toInt - lo).toNat]? = some off) (ht : (pc : Int) + off = (tgt : Int)) (k : jT M l G d C Q X Φ tgt lv rest b) : jT M l G d C Q X Φ pc lv (.int x :: rest) b := by
  obtain ⟨p, e, s, m, args, below, meth, c, F⟩ := X
  intro D H locs cells slots ls z1 z2 z3 z4 z5
  exact lv_tableIn D.1 D.2.1 hdg h1 h2 ho ht (k D H locs cells slots ls z1 z2 z3 z4 z5)
theorem jlv_iincW {i k : Nat} {n : Int} {x v : Int32}  (hdg : decode M.1 pc = .ok (.iinc i n, 6)) (hk : lv[k]? = some (i, .int x)) (hv : x + Int32.ofInt n = v) (hn : i < M.2.2.1) (hl : (i, Value.int v) :: lv.filter (fun q => !(q.1 == i) && !(q.1 + 1 == i && q.2.category == 2)) = lv') (kk : jT M l G d C Q X Φ (pc + 6) lv' rest b) : jT M l G d C Q X Φ pc lv rest b := by
  obtain ⟨p, e, s, m, args, below, meth, c, F⟩ := X
  intro D H locs cells slots ls z1 z2 z3 z4 z5
  exact lv_iincW D.1 D.2.1 hdg z5 hk hv hn hl (fun ls' h' => kk D H locs cells slots ls' z1 z2 z3 z4 h')
theorem jlv_ifnonnull {x : Nat} {off : Int} {tgt : Nat} (hdg : decode M.1 pc = .ok (.ifnonnull off, 3)) (ht : (pc : Int) + off = (tgt : Int)) (k : jT M l G d C Q X Φ tgt lv rest b) : jT M l G d C Q X Φ pc lv (.ref x :: rest) b := by
  obtain ⟨p, e, s, m, args, below, meth, c, F⟩ := X
  intro D H locs cells slots ls z1 z2 z3 z4 z5
  exact lv_ifnonnull D.1 D.2.1 hdg ht (k D H locs cells slots ls z1 z2 z3 z4 z5)
theorem jlv_ifnull {x : Nat} {off : Int} (hdg : decode M.1 pc = .ok (.ifnull off, 3)) (k : jT M l G d C Q X Φ (pc + 3) lv rest b) : jT M l G d C Q X Φ pc lv (.ref x :: rest) b := by
  obtain ⟨p, e, s, m, args, below, meth, c, F⟩ := X
  intro D H locs cells slots ls z1 z2 z3 z4 z5
  exact lv_ifnull D.1 D.2.1 hdg (k D H locs cells slots ls z1 z2 z3 z4 z5)
theorem jlv_null (hdg : decode M.1 pc = .ok (.aconst_null, 1)) (k : jT M l G d C Q X Φ (pc + 1) lv (.null :: rest) b) : jT M l G d C Q X Φ pc lv rest b := by
  obtain ⟨p, e, s, m, args, below, meth, c, F⟩ := X
  intro D H locs cells slots ls z1 z2 z3 z4 z5
  exact lv_null D.1 D.2.1 hdg (k D H locs cells slots ls z1 z2 z3 z4 z5)
theorem jlv_ifnullN {off : Int} {tgt : Nat} (hdg : decode M.1 pc = .ok (.ifnull off, 3)) (ht : (pc : Int) + off = (tgt : Int)) (k : jT M l G d C Q X Φ tgt lv rest b) : jT M l G d C Q X Φ pc lv (.null :: rest) b := by
  obtain ⟨p, e, s, m, args, below, meth, c, F⟩ := X
  intro D H locs cells slots ls z1 z2 z3 z4 z5
  exact lv_ifnullN D.1 D.2.1 hdg ht (k D H locs cells slots ls z1 z2 z3 z4 z5)
theorem jlv_ifnonnullN {off : Int} (hdg : decode M.1 pc = .ok (.ifnonnull off, 3)) (k : jT M l G d C Q X Φ (pc + 3) lv rest b) : jT M l G d C Q X Φ pc lv (.null :: rest) b := by
  obtain ⟨p, e, s, m, args, below, meth, c, F⟩ := X
  intro D H locs cells slots ls z1 z2 z3 z4 z5
  exact lv_ifnonnullN D.1 D.2.1 hdg (k D H locs cells slots ls z1 z2 z3 z4 z5)
theorem jlv_aload_nN {k : Fin 4} {i : Nat} (hdg : decode M.1 pc = .ok (.aload_n k, 1)) (hi : (k : Nat) = i) (nhl : Nat) (hl : lv[nhl]? = some (i, (.null))) (k : jT M l G d C Q X Φ (pc + 1) lv (.null :: rest) b) : jT M l G d C Q X Φ pc lv (rest) b := by
  obtain ⟨p, e, s, m, args, below, meth, c, F⟩ := X
  intro D H locs cells slots ls z1 z2 z3 z4 z5
  exact lv_aload_nN D.1 D.2.1 hdg hi (lv_at z5 nhl hl) (k D H locs cells slots ls z1 z2 z3 z4 z5)
theorem jlv_aloadN {i : Nat} (hdg : decode M.1 pc = .ok (.aload i, 2)) (nhl : Nat) (hl : lv[nhl]? = some (i, (.null))) (k : jT M l G d C Q X Φ (pc + 2) lv (.null :: rest) b) : jT M l G d C Q X Φ pc lv (rest) b := by
  obtain ⟨p, e, s, m, args, below, meth, c, F⟩ := X
  intro D H locs cells slots ls z1 z2 z3 z4 z5
  exact lv_aloadN D.1 D.2.1 hdg (lv_at z5 nhl hl) (k D H locs cells slots ls z1 z2 z3 z4 z5)
theorem jlv_astore_nN {k : Fin 4} {i : Nat}  (hdg : decode M.1 pc = .ok (.astore_n k, 1)) (hi : (k : Nat) = i) (hn : i < M.2.2.1) (hl : (i, Value.null) :: lv.filter (fun q => !(q.1 == i) && !(q.1 + 1 == i && q.2.category == 2)) = lv') (kk : jT M l G d C Q X Φ (pc + 1) lv' rest b) : jT M l G d C Q X Φ pc lv (.null :: rest) b := by
  obtain ⟨p, e, s, m, args, below, meth, c, F⟩ := X
  intro D H locs cells slots ls z1 z2 z3 z4 z5
  exact lv_astore_nN D.1 D.2.1 hdg hi z5 hn hl (fun ls' h' => kk D H locs cells slots ls' z1 z2 z3 z4 h')
theorem jlv_astoreN {i : Nat}  (hdg : decode M.1 pc = .ok (.astore i, 2)) (hn : i < M.2.2.1) (hl : (i, Value.null) :: lv.filter (fun q => !(q.1 == i) && !(q.1 + 1 == i && q.2.category == 2)) = lv') (kk : jT M l G d C Q X Φ (pc + 2) lv' rest b) : jT M l G d C Q X Φ pc lv (.null :: rest) b := by
  obtain ⟨p, e, s, m, args, below, meth, c, F⟩ := X
  intro D H locs cells slots ls z1 z2 z3 z4 z5
  exact lv_astoreN D.1 D.2.1 hdg z5 hn hl (fun ls' h' => kk D H locs cells slots ls' z1 z2 z3 z4 h')
theorem jlv_acmp_eq {rx ry : Option Nat} {off : Int} {tgt : Nat} (hdg : decode M.1 pc = .ok (.if_acmp .eq off, 3)) (ht : (pc : Int) + off = (tgt : Int)) (kt : rx = ry → jT M l G d C Q X Φ tgt lv rest b) (kf : ¬ rx = ry → jT M l G d C Q X Φ (pc + 3) lv rest b) : jT M l G d C Q X Φ pc lv (va_rf ry :: va_rf rx :: rest) b := by
  obtain ⟨p, e, s, m, args, below, meth, c, F⟩ := X
  intro D H locs cells slots ls z1 z2 z3 z4 z5
  exact lv_acmp_eq D.1 D.2.1 hdg ht (fun q => kt q D H locs cells slots ls z1 z2 z3 z4 z5) (fun q => kf q D H locs cells slots ls z1 z2 z3 z4 z5)
theorem jlv_acmp_ne {rx ry : Option Nat} {off : Int} {tgt : Nat} (hdg : decode M.1 pc = .ok (.if_acmp .ne off, 3)) (ht : (pc : Int) + off = (tgt : Int)) (kt : ¬ rx = ry → jT M l G d C Q X Φ tgt lv rest b) (kf : rx = ry → jT M l G d C Q X Φ (pc + 3) lv rest b) : jT M l G d C Q X Φ pc lv (va_rf ry :: va_rf rx :: rest) b := by
  obtain ⟨p, e, s, m, args, below, meth, c, F⟩ := X
  intro D H locs cells slots ls z1 z2 z3 z4 z5
  exact lv_acmp_ne D.1 D.2.1 hdg ht (fun q => kt q D H locs cells slots ls z1 z2 z3 z4 z5) (fun q => kf q D H locs cells slots ls z1 z2 z3 z4 z5)
theorem jlv_castN {index : Nat} (hdg : decode M.1 pc = .ok (.checkcast index, 3)) (k : jT M l G d C Q X Φ (pc + 3) lv (.null :: rest) b) : jT M l G d C Q X Φ pc lv (.null :: rest) b := by
  obtain ⟨p, e, s, m, args, below, meth, c, F⟩ := X
  intro D H locs cells slots ls z1 z2 z3 z4 z5
  exact lv_castN D.1 D.2.1 hdg (k D H locs cells slots ls z1 z2 z3 z4 z5)
theorem jlv_instN {index : Nat} (hdg : decode M.1 pc = .ok (.instanceof index, 3)) (k : jT M l G d C Q X Φ (pc + 3) lv (.int 0 :: rest) b) : jT M l G d C Q X Φ pc lv (.null :: rest) b := by
  obtain ⟨p, e, s, m, args, below, meth, c, F⟩ := X
  intro D H locs cells slots ls z1 z2 z3 z4 z5
  exact lv_instN D.1 D.2.1 hdg (k D H locs cells slots ls z1 z2 z3 z4 z5)
theorem jlv_ldcw {index : Nat} {v : Int32} (hconst : Jvm.Cond.constant M.2.1 index v ∈ lw_all) (hdg : decode M.1 pc = .ok (.ldc_w index, 3)) (k : jT M l G d C Q X Φ (pc + 3) lv (.int v :: rest) b) : jT M l G d C Q X Φ pc lv rest b := by
  obtain ⟨p, e, s, m, args, below, meth, c, F⟩ := X
  intro D H locs cells slots ls z1 z2 z3 z4 z5
  exact lv_ldcw D.1 D.2.1 D.2.2.2.1 (D.2.2.2.2.2.2.1 _ hconst) hdg (k D H locs cells slots ls z1 z2 z3 z4 z5)
theorem jW.lcmp {cc : ByteArray} {x y : Int64} {pc : Nat} {ls : Array Slot} {rest : List Value} (hdg : decode M.1 pc = .ok (.lcmp, 1)) (k : jT M l G d C Q X Φ (pc + 1) lv ((.int (lg_cmp x y) :: rest)) b) : jT M l G d C Q X Φ pc lv (.long y :: .long x :: rest) b := by
  obtain ⟨p, e, s, m, args, below, meth, c, F⟩ := X
  intro D H locs cells slots ls z1 z2 z3 z4 z5
  exact W.lcmp D.1 D.2.1 hdg (k D H locs cells slots ls z1 z2 z3 z4 z5)
end JL
/-! rows of the heap -/
section JH
variable {M : jM} {l : Launch} {G : jG} {d C : Nat} {Q : jQ} {X : jX} {Φ Φ' : List jP} {pc : Nat} {lv lv' : List (Nat × Value)} {rest : List Value} {b : Nat}
theorem japart {s : State} {args : Array Value} (hts : ∀ w ∈ lw_all, w.before args s = true) (hK : jKn G s) {k0 : Nat} {r : vw_C} (hr : jcl[k0]? = some r) : ∀ x y, x < r.2.2 → y < r.2.2 → x ≠ y → jSl G k0 x ≠ jSl G k0 y := by
  obtain ⟨hin, ty, hty, hnm⟩ := jcl_ok r (List.mem_of_getElem? hr)
  obtain ⟨C, T, N⟩ := r
  exact va_apart (own := "") (D := (G.1, G.2.1)) (cl := jcl) (tys := []) (ci := k0) hts hin ty hty hnm hK.cl hr
theorem jat {s : State} {F : List jP} {H : Heap} {i : Nat} {f : Bool} {a : Nat} {o : jO} (hi : Φ[i]? = some (jA f a o)) (h : jsat G (Φ ++ F) H) : jcell G H a (f, o) := jsat_get (i := i) (by rw [List.getElem?_append_left (jlt hi)]; exact hi) h
theorem jsetF {F : List jP} {H H1 : Heap} {i : Nat} {a : Nat} {o o' : jO} {f' : Bool} (hi : Φ[i]? = some (jA false a o)) (h : jsat G (Φ ++ F) H) (hz : H1.size = H.size) (hq : ∀ q, q ≠ a → H1[q]? = H[q]?) (ho : o'.1 = o.1) {cell : Cell} (h1 : H1[a]? = some cell) (h2 : jmt G a o' cell) : jsat G (Φ.set i (jA f' a o') ++ F) H1 := by
  have := jsat_set (A := Φ ++ F) (f' := f') (by rw [List.getElem?_append_left (jlt hi)]; exact hi) h hz hq ho h1 h2
  rwa [List.set_append_left _ _ (jlt hi)] at this
/-- the field's place among the class's, as the tables have it -/
theorem jfield {s : State} {args : Array Value} (hts : ∀ w ∈ lw_all, w.before args s = true) (hK : jKn G s) {k0 : Nat} {r : vw_C} (hr : jcl[k0]? = some r) {k : Nat} (hk : k < r.2.2) {ref : String} (hsame : ref = (r.2.1 k).1 ∨ Cond.sameField ref (r.2.1 k).1 (r.2.1 k).2.1 (r.2.1 k).2.2.1 ∈ lw_all) :
    ∃ (cf : ClassId) (kf : Class) (fi : Nat) (f : Field), s.fieldFound? (r.2.1 k).1 (r.2.1 k).2.1 (r.2.1 k).2.2.1 = some (cf, kf, fi, f) ∧ s.fieldFound? ref (r.2.1 k).2.1 (r.2.1 k).2.2.1 = some (cf, kf, fi, f) ∧ f.slot = jSl G k0 k ∧ f.isStatic = false := by
  obtain ⟨hin, -⟩ := jcl_ok r (List.mem_of_getElem? hr)
  obtain ⟨hS, hfc, kC, hkC, hkind⟩ := hK.cl.1 k0 r hr
  obtain ⟨cf, kf, fi, f, hi, hsl⟩ := hS k hk
  refine ⟨cf, kf, fi, f, hi, ?_, hsl, (u_facts hfc hkC (u_lays hts hin hk) hi).1⟩
  rcases hsame with h | h
  · rw [h]; exact hi
  · exact u_same (hts _ h) _ hi
theorem jr_get (i : Nat) {f : Bool} {a k0 : Nat} {fs : List Value} (hi : Φ[i]? = some (jA f a ((0, k0), fs))) {r : vw_C} (hr : jcl[k0]? = some r) (k : Nat) {index : Nat} {ref : String} (hlink : Cond.fieldLink M.2.1 index ref (r.2.1 k).2.1 (r.2.1 k).2.2.1 ∈ lw_all) (hsame : ref = (r.2.1 k).1 ∨ Cond.sameField ref (r.2.1 k).1 (r.2.1 k).2.1 (r.2.1 k).2.2.1 ∈ lw_all) {v : Value} (hv : fs[k]? = some v) (hdg : decode M.1 pc = .ok (.getfield index, 3))
    (h : jT M l G d C Q X Φ (pc + 3) lv (v :: rest) b) : jT M l G d C Q X Φ pc lv (.ref a :: rest) b := by
  obtain ⟨p, e, s, m, args, below, meth, c, F⟩ := X
  intro D H locs cells slots ls h1 h2 h3 h4 h5
  obtain ⟨-, cell, g1, g2, -, r', g3, g4, g5⟩ := jat (s := s) hi h1
  cases Option.some.inj (g3.symm.trans hr)
  obtain ⟨hk, hs⟩ := g5 k v hv
  obtain ⟨cf, kf, fi, fd, -, q2, q3, q4⟩ := jfield D.2.2.2.2.2.2.1 D.2.2.2.2.2.2.2.1 hr hk hsame
  exact W.getf D.1 D.2.1 D.2.2.2.1 (D.2.2.2.2.2.2.1 _ hlink) q2 q4 g1 (by rw [g2]; exact fun h => by cases h) (v := v) (by rw [q3]; exact hs) rfl rfl hdg (h D H locs cells slots ls h1 h2 h3 h4 h5)
theorem jr_getN (i : Nat) {f : Bool} {a k0 : Nat} {fs : List Value} (hi : Φ[i]? = some (jA f a ((0, k0), fs))) {r : vw_C} (hr : jcl[k0]? = some r) (k : Nat) {index : Nat} {ref host : String} (hlink : (M.2.1, index, ref, (r.2.1 k).2.1, (r.2.1 k).2.2.1, host) ∈ jfn) (hsame : ref = (r.2.1 k).1 ∨ Cond.sameField ref (r.2.1 k).1 (r.2.1 k).2.1 (r.2.1 k).2.2.1 ∈ lw_all) {v : Value} (hv : fs[k]? = some v) (hdg : decode M.1 pc = .ok (.getfield index, 3))
    (h : jT M l G d C Q X Φ (pc + 3) lv (v :: rest) b) : jT M l G d C Q X Φ pc lv (.ref a :: rest) b := by
  obtain ⟨p, e, s, m, args, below, meth, c, F⟩ := X
  intro D H locs cells slots ls h1 h2 h3 h4 h5
  obtain ⟨-, cell, g1, g2, -, r', g3, g4, g5⟩ := jat (s := s) hi h1
  cases Option.some.inj (g3.symm.trans hr)
  obtain ⟨hk, hs⟩ := g5 k v hv
  obtain ⟨cf, kf, fi, fd, -, q2, q3, q4⟩ := jfield D.2.2.2.2.2.2.1 D.2.2.2.2.2.2.2.1 hr hk hsame
  exact va_Wgetf D.1 D.2.1 D.2.2.2.1 (va_Nw.use rfl (D.2.2.2.2.2.2.2.1.fn _ hlink)) q2 q4 g1 (by rw [g2]; exact fun h => by cases h) (v := v) (by rw [q3]; exact hs) rfl rfl hdg (h D H locs cells slots ls h1 h2 h3 h4 h5)
theorem jmt_put {s : State} {args : Array Value} (hts : ∀ w ∈ lw_all, w.before args s = true) (hK : jKn G s) {a k0 k : Nat} {fs : List Value} {r : vw_C} (hr : jcl[k0]? = some r) {cell : Cell} {v v0 : Value} (hv : fs[k]? = some v0) (hm : jmt G a ((0, k0), fs) cell) : jmt G a ((0, k0), fs.set k v) (cell.setSlot (jSl G k0 k) v) := by
  obtain ⟨g2, gm, r', g3, g4, g5⟩ := hm
  cases Option.some.inj (g3.symm.trans hr)
  have hl := jlt hv
  refine ⟨g2, fun e1 e2 e3 => gm e1 (fun z => by have z : fs = [] := z; rw [z] at hl; exact absurd hl (Nat.not_lt_zero _)) e3, r, hr, g4, fun j w hj => ?_⟩
  by_cases e : j = k
  · subst e
    rw [List.getElem?_set_self hl] at hj
    cases hj
    obtain ⟨q1, q2⟩ := g5 j v0 hv
    refine ⟨q1, ?_⟩
    exact Cell.slots_setSlot_self v (k2_hasslot q2)
  · rw [List.getElem?_set_ne (Ne.symm e)] at hj
    obtain ⟨q1, q2⟩ := g5 j w hj
    refine ⟨q1, ?_⟩
    rw [slot_ne _ _ (japart hts hK hr _ _ (g5 k v0 hv).1 q1 (Ne.symm e))]
    exact q2
theorem jr_put (i : Nat) {a k0 : Nat} {fs : List Value} (hi : Φ[i]? = some (jA false a ((0, k0), fs))) {r : vw_C} (hr : jcl[k0]? = some r) (k : Nat) {index : Nat} {ref : String} (hlink : Cond.fieldLink M.2.1 index ref (r.2.1 k).2.1 (r.2.1 k).2.2.1 ∈ lw_all) (hsame : ref = (r.2.1 k).1 ∨ Cond.sameField ref (r.2.1 k).1 (r.2.1 k).2.1 (r.2.1 k).2.2.1 ∈ lw_all) (hfin : (r.2.1 k).2.2.2 = false) {ty : FieldType} {v v0 : Value} (hd : parseFieldDescriptor (r.2.1 k).2.2.1 = some ty) (hn : narrow ty v = v) (hfit : fits ty v = true) (hv : fs[k]? = some v0) (hdg : decode M.1 pc = .ok (.putfield index, 3))
    (hΦ : Φ.set i (jA false a ((0, k0), fs.set k v)) = Φ') (h : jT M l G d C Q X Φ' (pc + 3) lv rest b) : jT M l G d C Q X Φ pc lv (v :: .ref a :: rest) b := by
  subst hΦ
  obtain ⟨p, e, s, m, args, below, meth, c, F⟩ := X
  intro D H locs cells slots ls h1 h2 h3 h4 h5
  obtain ⟨gN, cell, g1, g6⟩ := jat (s := s) hi h1
  have g7 := g6
  obtain ⟨g2, -, r', g3, g4, g5⟩ := g6
  cases Option.some.inj (g3.symm.trans hr)
  obtain ⟨hk, hs⟩ := g5 k v0 hv
  have hts := D.2.2.2.2.2.2.1
  have hK := D.2.2.2.2.2.2.2.1
  obtain ⟨cf, kf, fi, fd, q1, q2, q3, q4⟩ := jfield hts hK hr hk hsame
  obtain ⟨hin, -⟩ := jcl_ok r (List.mem_of_getElem? hr)
  obtain ⟨hS, hfc, kC, hkC, hkind⟩ := hK.cl.1 k0 r hr
  have hlay := hts _ (hin _ (u_in_lay hk))
  unfold u_lay at hlay
  rw [if_neg (by rw [hfin]; decide)] at hlay
  have h6 := u_store hfc hkC hkind hlay q1 hd hn hfit
  refine W.putK D.1 D.2.1 (f := fd) ⟨D.2.2.2.1, hts _ hlink, ⟨_, _, _, q2⟩, q4⟩ (by rw [g4]; exact h6) g1 g2 (by rw [q3]; exact k2_hasslot hs) rfl rfl hdg fun H' e1 e2 e3 => ?_
  rw [q3] at e1 ⊢
  refine h D H' _ cells slots ls (jsetF hi h1 e2 e3 rfl e1 (jmt_put hts hK hr hv g7)) (fun q hq => ?_) h3 h4 h5
  rcases List.mem_append.mp hq with hq | hq
  · exact h2 q hq
  · rw [List.mem_singleton.mp hq]; exact gN rfl
theorem jr_putN (i : Nat) {a k0 : Nat} {fs : List Value} (hi : Φ[i]? = some (jA false a ((0, k0), fs))) {r : vw_C} (hr : jcl[k0]? = some r) (k : Nat) {index : Nat} {ref host : String} (hlink : (M.2.1, index, ref, (r.2.1 k).2.1, (r.2.1 k).2.2.1, host) ∈ jfn) (hsame : ref = (r.2.1 k).1 ∨ Cond.sameField ref (r.2.1 k).1 (r.2.1 k).2.1 (r.2.1 k).2.2.1 ∈ lw_all) (hfin : (r.2.1 k).2.2.2 = false) {ty : FieldType} {v v0 : Value} (hd : parseFieldDescriptor (r.2.1 k).2.2.1 = some ty) (hn : narrow ty v = v) (hfit : fits ty v = true) (hv : fs[k]? = some v0) (hdg : decode M.1 pc = .ok (.putfield index, 3))
    (hΦ : Φ.set i (jA false a ((0, k0), fs.set k v)) = Φ') (h : jT M l G d C Q X Φ' (pc + 3) lv rest b) : jT M l G d C Q X Φ pc lv (v :: .ref a :: rest) b := by
  subst hΦ
  obtain ⟨p, e, s, m, args, below, meth, c, F⟩ := X
  intro D H locs cells slots ls h1 h2 h3 h4 h5
  obtain ⟨gN, cell, g1, g6⟩ := jat (s := s) hi h1
  have g7 := g6
  obtain ⟨g2, -, r', g3, g4, g5⟩ := g6
  cases Option.some.inj (g3.symm.trans hr)
  obtain ⟨hk, hs⟩ := g5 k v0 hv
  have hts := D.2.2.2.2.2.2.1
  have hK := D.2.2.2.2.2.2.2.1
  obtain ⟨cf, kf, fi, fd, q1, q2, q3, q4⟩ := jfield hts hK hr hk hsame
  obtain ⟨hin, -⟩ := jcl_ok r (List.mem_of_getElem? hr)
  obtain ⟨hS, hfc, kC, hkC, hkind⟩ := hK.cl.1 k0 r hr
  have hlay := hts _ (hin _ (u_in_lay hk))
  unfold u_lay at hlay
  rw [if_neg (by rw [hfin]; decide)] at hlay
  have h6 := u_store hfc hkC hkind hlay q1 hd hn hfit
  refine va_WputK D.1 D.2.1 (f := fd) D.2.2.2.1 (va_Nw.use rfl (hK.fn _ hlink)) q2 q4 (by rw [g4]; exact h6) g1 g2 (by rw [q3]; exact k2_hasslot hs) rfl rfl hdg fun H' e1 e2 e3 => ?_
  rw [q3] at e1 ⊢
  refine h D H' _ cells slots ls (jsetF hi h1 e2 e3 rfl e1 (jmt_put hts hK hr hv g7)) (fun q hq => ?_) h3 h4 h5
  rcases List.mem_append.mp hq with hq | hq
  · exact h2 q hq
  · rw [List.mem_singleton.mp hq]; exact gN rfl
/-- a final field, in its own class's constructor -/
theorem jr_putF (i : Nat) {a k0 : Nat} {fs : List Value} (hi : Φ[i]? = some (jA false a ((0, k0), fs))) {r : vw_C} (hr : jcl[k0]? = some r) (k : Nat) {index : Nat} (hlink : Cond.fieldLink M.2.1 index (r.2.1 k).1 (r.2.1 k).2.1 (r.2.1 k).2.2.1 ∈ lw_all) (hown : (r.2.1 k).1 = M.2.1) (hin2 : M.2.2.2.2.1 = "<init>") (hfin : (r.2.1 k).2.2.2 = true) {ty : FieldType} {v v0 : Value} (hd : parseFieldDescriptor (r.2.1 k).2.2.1 = some ty) (hn : narrow ty v = v) (hfit : fits ty v = true) (hv : fs[k]? = some v0) (hdg : decode M.1 pc = .ok (.putfield index, 3))
    (hΦ : Φ.set i (jA false a ((0, k0), fs.set k v)) = Φ') (h : jT M l G d C Q X Φ' (pc + 3) lv rest b) : jT M l G d C Q X Φ pc lv (v :: .ref a :: rest) b := by
  subst hΦ
  obtain ⟨p, e, s, m, args, below, meth, c, F⟩ := X
  intro D H locs cells slots ls h1 h2 h3 h4 h5
  obtain ⟨gN, cell, g1, g6⟩ := jat (s := s) hi h1
  have g7 := g6
  obtain ⟨g2, -, r', g3, g4, g5⟩ := g6
  cases Option.some.inj (g3.symm.trans hr)
  obtain ⟨hk, hs⟩ := g5 k v0 hv
  have hts := D.2.2.2.2.2.2.1
  have hK := D.2.2.2.2.2.2.2.1
  obtain ⟨cf, kf, fi, fd, q1, q2, q3, q4⟩ := jfield hts hK hr hk (Or.inl rfl)
  obtain ⟨hin, -⟩ := jcl_ok r (List.mem_of_getElem? hr)
  obtain ⟨hS, hfc, kC, hkC, hkind⟩ := hK.cl.1 k0 r hr
  have hlay := hts _ (hin _ (u_in_lay hk))
  unfold u_lay at hlay
  rw [if_pos hfin] at hlay
  have hcf : m.cls = cf := by
    obtain ⟨_, _, c', _, _, _, -, -, hf', -, -, -, hown2, -⟩ := Cond.laysFinal_spec hlay
    have e1 : c' = cf := by have := q1.symm.trans hf'; simp at this; exact this.1.symm
    rw [hown] at hown2
    rw [← e1]; exact Option.some.inj (D.2.2.2.1.symm.trans hown2)
  have h6 := u_fits hfc hkC hkind (Or.inr hlay) q1 hd hn hfit
  refine W.putFinK D.1 D.2.1 D.2.2.2.1 (hts _ hlink) q2 q4 hcf (D.2.2.2.2.2.2.2.2.2.2.trans hin2) (by rw [g4]; exact h6) g1 g2 (by rw [q3]; exact k2_hasslot hs) rfl rfl hdg fun H' e1 e2 e3 => ?_
  rw [q3] at e1 ⊢
  refine h D H' _ cells slots ls (jsetF hi h1 e2 e3 rfl e1 (jmt_put hts hK hr hv g7)) (fun q hq => ?_) h3 h4 h5
  rcases List.mem_append.mp hq with hq | hq
  · exact h2 q hq
  · rw [List.mem_singleton.mp hq]; exact gN rfl
theorem jr_gets (k : Nat) {q : String × String × String} (hk : jst[k]? = some q) {index : Nat} (hlink : Cond.fieldLink M.2.1 index q.1 q.2.1 q.2.2 ∈ lw_all) (hdg : decode M.1 pc = .ok (.getstatic index, 3))
    (h : jT M l G d C Q X Φ (pc + 3) lv (jSV G k :: rest) b) : jT M l G d C Q X Φ pc lv rest b := by
  obtain ⟨p, e, s, m, args, below, meth, c, F⟩ := X
  intro D H locs cells slots ls h1 h2 h3 h4 h5
  obtain ⟨cf, kf, fi, f, a, cell, q1, q2, q3, q4, q5, q6, q7, q8⟩ := D.2.2.2.2.2.2.2.1.st k q hk
  exact W.gets D.1 D.2.1 D.2.2.2.1 (D.2.2.2.2.2.2.1 _ hlink) q1 q2 q3 q4 (by rw [h1.1.2.1 a (by omega)]; exact q5) (fun e => by rw [e] at q6; cases q6) q7 rfl hdg (h D H locs cells slots ls h1 h2 h3 h4 h5)
theorem jr_new {k0 : Nat} {r : vw_C} (hr : jcl[k0]? = some r) {index : Nat} (hcl : Cond.classLink M.2.1 index r.1 ∈ lw_all) (hinst : Cond.instantiable r.1 r.2.2 ∈ lw_all) (hini : Cond.initialized r.1 ∈ lw_all) {fs : List Value} (hfs : ((List.range r.2.2).map (fun j => (parseFieldDescriptor (r.2.1 j).2.2.1).map defaultValue) = fs.map some)) {u : Nat} (hu : r.2.2 ≤ 4 * u) (hu1 : 1 ≤ u) (hb : u ≤ b) (hdg : decode M.1 pc = .ok (.new index, 3))
    (h : ∀ a : Nat, jT M l G d C Q X (jA false a ((0, k0), fs) :: Φ) (pc + 3) lv (.ref a :: rest) (b - u)) : jT M l G d C Q X Φ pc lv rest b := by
  obtain ⟨p, e, s, m, args, below, meth, c, F⟩ := X
  intro D H locs cells slots ls h1 h2 h3 h4 h5
  have hts := D.2.2.2.2.2.2.1
  have hK := D.2.2.2.2.2.2.2.1
  obtain ⟨hin, ty, hty, -⟩ := jcl_ok r (List.mem_of_getElem? hr)
  have hKn := hK.cl.1 k0 r hr
  obtain ⟨rC, rT, rN⟩ := r
  refine W.newcK D.1 D.2.1 D.2.2.2.1 (hts _ hcl) (hts _ hinst) (hts _ hini) rfl hdg (by show cells + 1 ≤ C; omega) (by show slots + rN ≤ 4 * C; dsimp only at hu; omega) hKn.2.1 rfl fun H1 kC hkC e0 z1 o1 => ?_
  refine W.widen (k := cells + u) (n := slots + 4 * u) (by omega) (by dsimp only at hu ⊢; omega) ?_
  obtain ⟨cell, c1, c2, c3, c4⟩ := u_born ty hts hin hKn hkC e0 hty
  refine h H.size D H1 locs (cells + u) (slots + 4 * u) ls ?_ h2 (by omega) (by omega) h5
  refine jsat_new h1 z1 o1 c1 ⟨c3, fun e1 e2 e3 => ?_, (rC, rT, rN), hr, c2, fun j v hj => ?_⟩
  · have hm : cell.monitor = {} := by
      cases Option.some.inj (e0.symm.trans c1)
      rfl
    rw [hm, h1.1.2.2 H.size (Nat.le_refl _)]
  · have hl : j < rN := by
      have h9 := congrArg List.length hfs
      simp only [List.length_map, List.length_range] at h9
      rw [h9]; exact jlt hj
    refine ⟨hl, ?_⟩
    have h9 := congrArg (fun z => z[j]?) hfs
    simp only [List.getElem?_map, List.getElem?_range hl, hj, Option.map_some] at h9
    rw [hty j hl] at h9
    have h10 : defaultValue (ty j) = v := by simpa using h9
    rw [← h10]; exact c4 j hl
theorem jr_newa {atype : ArrayType} (harr : Cond.arrayClass (newarray.typeOf atype) ∈ lw_all) (k : Nat) {ty : FieldType} (hty : newarray.typeOf atype = ty) (hk : jtr[k]? = some ty) (hnob : ∀ c, ty ≠ .object c) {n : Int32} {N u : Nat} (hn : n.toInt = N) (hN : N * componentBytes ty ≤ 536870912) (hu : N ≤ 4 * u) (hu1 : 1 ≤ u) (hb : u ≤ b) (hdg : decode M.1 pc = .ok (.newarray atype, 2))
    (h : ∀ a : Nat, jT M l G d C Q X (jA false a ((1, k), List.replicate N (defaultValue ty)) :: Φ) (pc + 2) lv (.ref a :: rest) (b - u)) : jT M l G d C Q X Φ pc lv (.int n :: rest) b := by
  subst hty
  obtain ⟨p, e, s, m, args, below, meth, c, F⟩ := X
  intro D H locs cells slots ls h1 h2 h3 h4 h5
  have hts := D.2.2.2.2.2.2.1
  have hK := D.2.2.2.2.2.2.2.1
  have hn0 : ¬ n < 0 := by
    intro hlt
    have := Int32.lt_iff_toInt_lt.mp hlt
    rw [Int32.toInt_zero] at this
    omega
  have hnN : n.toNatClampNeg = N := by
    have : n.toNatClampNeg = n.toInt.toNat := rfl
    rw [this, hn]; rfl
  refine va_newaK D.1 D.2.1 (hts _ harr) rfl hdg rfl hn0 hnN hN (by show cells + 1 ≤ C; omega) (by show slots + N ≤ 4 * C; omega) rfl fun H1 cA e1 z1 o1 hAr hNm => ?_
  refine W.widen (k := cells + u) (n := slots + 4 * u) (by omega) (by omega) ?_
  refine h H.size D H1 locs (cells + u) (slots + 4 * u) ls ?_ h2 (by omega) (by omega) h5
  have hid : jAid G k = cA := by
    have h9 := hK.ra k _ hk
    generalize newarray.typeOf atype = ty at h9 hNm hnob
    have h8 : s.vm.findClass ("[" ++ ty.toString) = some (jAid G k) := by
      cases ty <;> first | exact h9 | exact absurd rfl (hnob _)
    exact Option.some.inj (h8.symm.trans hNm)
  refine jsat_new h1 z1 o1 e1 ?_
  show _ = arrV (jAid G k) (List.replicate N _).length _
  rw [hid, List.length_replicate]
  refine congrArg (fun z => ({ cls := cA, slots := z, vm := .none } : Cell)) ?_
  apply Array.ext (by simp)
  intro i hi1 hi2
  simp at hi1
  simp [List.getD_eq_getElem?_getD, List.getElem?_replicate, hi1]
theorem jidx {j : Int32} {n : Nat} (h : j.toInt = (n : Int)) : ¬ j < 0 ∧ j.toNatClampNeg = n := by
  refine ⟨fun hlt => ?_, ?_⟩
  · have := Int32.lt_iff_toInt_lt.mp hlt
    rw [Int32.toInt_zero] at this
    omega
  · have : j.toNatClampNeg = j.toInt.toNat := rfl
    rw [this, h]; rfl
theorem jmt_ast {a k n : Nat} {vs : List Value} {v : Value} {cell : Cell} (hn : n < vs.length) (h : jmt G a ((1, k), vs) cell) : jmt G a ((1, k), vs.set n v) (cell.setSlot n v) := by
  have e : cell = arrV (jAid G k) vs.length (fun j => vs.getD j .null) := h
  show cell.setSlot n v = arrV (jAid G k) (vs.set n v).length (fun j => (vs.set n v).getD j .null)
  rw [e, arrV_store, List.length_set]
  congr 1
  funext j
  unfold updV
  by_cases hj : j = n
  · subst hj
    rw [if_pos rfl, List.getD_eq_getElem?_getD, List.getElem?_set_self hn]; rfl
  · rw [if_neg hj]
    show vs.getD j .null = (vs.set n v).getD j .null
    rw [List.getD_eq_getElem?_getD, List.getD_eq_getElem?_getD, List.getElem?_set_ne (Ne.symm hj)]
theorem jarr_in {a k n : Nat} {vs : List Value} {v : Value} {cell : Cell} {j : Int32} (hj : j.toInt = (n : Int)) (hv : vs[n]? = some v) (h : jmt G a ((1, k), vs) cell) : ¬ (j < 0 ∨ cell.slots.size ≤ j.toNatClampNeg) ∧ cell.slots[j.toNatClampNeg]? = some v := by
  have e : cell = arrV (jAid G k) vs.length (fun j => vs.getD j .null) := h
  obtain ⟨h0, h1⟩ := jidx hj
  have hl := jlt hv
  rw [h1, e, arrV_size, arrV_read _ _ hl]
  refine ⟨fun q => q.elim h0 (fun z => absurd hl (Nat.not_lt.mpr z)), ?_⟩
  rw [List.getD_eq_getElem?_getD, hv]; rfl
theorem jr_alen (i : Nat) {f : Bool} {a k : Nat} {vs : List Value} (hi : Φ[i]? = some (jA f a ((1, k), vs))) {ty : FieldType} (hk : jty[k]? = some ty) (hdg : decode M.1 pc = .ok (.arraylength, 1)) {n : Int32} (hn : vs.length.toInt32 = n)
    (h : jT M l G d C Q X Φ (pc + 1) lv (.int n :: rest) b) : jT M l G d C Q X Φ pc lv (.ref a :: rest) b := by
  obtain ⟨p, e, s, m, args, below, meth, c, F⟩ := X
  intro D H locs cells slots ls h1 h2 h3 h4 h5
  obtain ⟨-, cell, g1, g2⟩ := jat (s := s) hi h1
  have g3 : cell = arrV (jAid G k) vs.length (fun j => vs.getD j .null) := g2
  refine W.alen D.1 D.2.1 g1 (by rw [g3]; exact D.2.2.2.2.2.2.2.1.ar k ty hk _ _) (by rw [g3, arrV_size]; exact hn) rfl rfl hdg (h D H locs cells slots ls h1 h2 h3 h4 h5)
theorem jr_iald (i : Nat) {f : Bool} {a n : Nat} {vs : List Value} (hi : Φ[i]? = some (jA f a ((1, 1), vs))) {j : Int32} (hj : j.toInt = (n : Int)) {v : Value} (hv : vs[n]? = some v) (hdg : decode M.1 pc = .ok (.iaload, 1))
    (h : jT M l G d C Q X Φ (pc + 1) lv (v :: rest) b) : jT M l G d C Q X Φ pc lv (.int j :: .ref a :: rest) b := by
  obtain ⟨p, e, s, m, args, below, meth, c, F⟩ := X
  intro D H locs cells slots ls h1 h2 h3 h4 h5
  obtain ⟨-, cell, g1, g2⟩ := jat (s := s) hi h1
  obtain ⟨q1, q2⟩ := jarr_in hj hv g2
  have g3 : cell = arrV (jAid G 1) vs.length (fun j => vs.getD j .null) := g2
  exact W.iald D.1 D.2.1 g1 (by rw [g3]; exact D.2.2.2.2.2.2.2.1.ar 1 _ rfl _ _) (by rw [g3]; exact fun q => by cases q) q1 q2 rfl rfl hdg (h D H locs cells slots ls h1 h2 h3 h4 h5)
theorem jr_lald (i : Nat) {f : Bool} {a n : Nat} {vs : List Value} (hi : Φ[i]? = some (jA f a ((1, 2), vs))) {j : Int32} (hj : j.toInt = (n : Int)) {v : Value} (hv : vs[n]? = some v) (hdg : decode M.1 pc = .ok (.laload, 1))
    (h : jT M l G d C Q X Φ (pc + 1) lv (v :: rest) b) : jT M l G d C Q X Φ pc lv (.int j :: .ref a :: rest) b := by
  obtain ⟨p, e, s, m, args, below, meth, c, F⟩ := X
  intro D H locs cells slots ls h1 h2 h3 h4 h5
  obtain ⟨-, cell, g1, g2⟩ := jat (s := s) hi h1
  obtain ⟨q1, q2⟩ := jarr_in hj hv g2
  have g3 : cell = arrV (jAid G 2) vs.length (fun j => vs.getD j .null) := g2
  exact W.lald D.1 D.2.1 g1 (by rw [g3]; exact D.2.2.2.2.2.2.2.1.ar 2 _ rfl _ _) (by rw [g3]; exact fun q => by cases q) q1 q2 rfl rfl hdg (h D H locs cells slots ls h1 h2 h3 h4 h5)
theorem jr_dald (i : Nat) {f : Bool} {a n : Nat} {vs : List Value} (hi : Φ[i]? = some (jA f a ((1, 3), vs))) {j : Int32} (hj : j.toInt = (n : Int)) {v : Value} (hv : vs[n]? = some v) (hdg : decode M.1 pc = .ok (.daload, 1))
    (h : jT M l G d C Q X Φ (pc + 1) lv (v :: rest) b) : jT M l G d C Q X Φ pc lv (.int j :: .ref a :: rest) b := by
  obtain ⟨p, e, s, m, args, below, meth, c, F⟩ := X
  intro D H locs cells slots ls h1 h2 h3 h4 h5
  obtain ⟨-, cell, g1, g2⟩ := jat (s := s) hi h1
  obtain ⟨q1, q2⟩ := jarr_in hj hv g2
  have g3 : cell = arrV (jAid G 3) vs.length (fun j => vs.getD j .null) := g2
  exact W.dald D.1 D.2.1 g1 (by rw [g3]; exact D.2.2.2.2.2.2.2.1.ar 3 _ rfl _ _) (by rw [g3]; exact fun q => by cases q) q1 q2 rfl rfl hdg (h D H locs cells slots ls h1 h2 h3 h4 h5)
theorem jr_bald (i : Nat) {f : Bool} {a n : Nat} {vs : List Value} (hi : Φ[i]? = some (jA f a ((1, 0), vs))) {j : Int32} (hj : j.toInt = (n : Int)) {v : Value} (hv : vs[n]? = some v) (hdg : decode M.1 pc = .ok (.baload, 1))
    (h : jT M l G d C Q X Φ (pc + 1) lv (v :: rest) b) : jT M l G d C Q X Φ pc lv (.int j :: .ref a :: rest) b := by
  obtain ⟨p, e, s, m, args, below, meth, c, F⟩ := X
  intro D H locs cells slots ls h1 h2 h3 h4 h5
  obtain ⟨-, cell, g1, g2⟩ := jat (s := s) hi h1
  obtain ⟨q1, q2⟩ := jarr_in hj hv g2
  have g3 : cell = arrV (jAid G 0) vs.length (fun j => vs.getD j .null) := g2
  exact W.bald D.1 D.2.1 g1 (by rw [g3]; exact D.2.2.2.2.2.2.2.1.ar 0 _ rfl _ _) (by rw [g3]; exact fun q => by cases q) q1 q2 rfl rfl hdg (h D H locs cells slots ls h1 h2 h3 h4 h5)
theorem jr_zald (i : Nat) {f : Bool} {a n : Nat} {vs : List Value} (hi : Φ[i]? = some (jA f a ((1, 4), vs))) {j : Int32} (hj : j.toInt = (n : Int)) {v : Value} (hv : vs[n]? = some v) (hdg : decode M.1 pc = .ok (.baload, 1))
    (h : jT M l G d C Q X Φ (pc + 1) lv (v :: rest) b) : jT M l G d C Q X Φ pc lv (.int j :: .ref a :: rest) b := by
  obtain ⟨p, e, s, m, args, below, meth, c, F⟩ := X
  intro D H locs cells slots ls h1 h2 h3 h4 h5
  obtain ⟨-, cell, g1, g2⟩ := jat (s := s) hi h1
  obtain ⟨q1, q2⟩ := jarr_in hj hv g2
  have g3 : cell = arrV (jAid G 4) vs.length (fun j => vs.getD j .null) := g2
  exact W.zald D.1 D.2.1 g1 (by rw [g3]; exact D.2.2.2.2.2.2.2.1.ar 4 _ rfl _ _) (by rw [g3]; exact fun q => by cases q) q1 q2 rfl rfl hdg (h D H locs cells slots ls h1 h2 h3 h4 h5)
theorem jr_iast (i : Nat) {a n : Nat} {vs : List Value} (hi : Φ[i]? = some (jA false a ((1, 1), vs))) {j : Int32} (hj : j.toInt = (n : Int)) (hn : n < vs.length) {x : Int32} {v : Value} (hv : .int x = v) (hdg : decode M.1 pc = .ok (.iastore, 1))
    (hΦ : Φ.set i (jA false a ((1, 1), vs.set n v)) = Φ') (h : jT M l G d C Q X Φ' (pc + 1) lv rest b) : jT M l G d C Q X Φ pc lv (.int x :: .int j :: .ref a :: rest) b := by
  subst hΦ
  subst hv
  obtain ⟨p, e, s, m, args, below, meth, c, F⟩ := X
  intro D H locs cells slots ls h1 h2 h3 h4 h5
  obtain ⟨gN, cell, g1, g2⟩ := jat (s := s) hi h1
  obtain ⟨q1, q2⟩ := jarr_in hj (List.getElem?_eq_getElem hn) g2
  have g3 : cell = arrV (jAid G 1) vs.length (fun j => vs.getD j .null) := g2
  refine W.iast D.1 D.2.1 g1 (by rw [g3]; exact D.2.2.2.2.2.2.2.1.ar 1 _ rfl _ _) (by rw [g3]; exact fun q => by cases q) q1 rfl rfl hdg fun H' e1 e2 e3 => ?_
  rw [(jidx hj).2] at e1 ⊢
  refine h D H' _ cells slots ls (jsetF hi h1 e2 e3 rfl e1 (jmt_ast hn g2)) (fun q hq => ?_) h3 h4 h5
  rcases List.mem_append.mp hq with hq | hq
  · exact h2 q hq
  · rw [List.mem_singleton.mp hq]; exact gN rfl
theorem jr_last (i : Nat) {a n : Nat} {vs : List Value} (hi : Φ[i]? = some (jA false a ((1, 2), vs))) {j : Int32} (hj : j.toInt = (n : Int)) (hn : n < vs.length) {x : Int64} {v : Value} (hv : .long x = v) (hdg : decode M.1 pc = .ok (.lastore, 1))
    (hΦ : Φ.set i (jA false a ((1, 2), vs.set n v)) = Φ') (h : jT M l G d C Q X Φ' (pc + 1) lv rest b) : jT M l G d C Q X Φ pc lv (.long x :: .int j :: .ref a :: rest) b := by
  subst hΦ
  subst hv
  obtain ⟨p, e, s, m, args, below, meth, c, F⟩ := X
  intro D H locs cells slots ls h1 h2 h3 h4 h5
  obtain ⟨gN, cell, g1, g2⟩ := jat (s := s) hi h1
  obtain ⟨q1, q2⟩ := jarr_in hj (List.getElem?_eq_getElem hn) g2
  have g3 : cell = arrV (jAid G 2) vs.length (fun j => vs.getD j .null) := g2
  refine W.last D.1 D.2.1 g1 (by rw [g3]; exact D.2.2.2.2.2.2.2.1.ar 2 _ rfl _ _) (by rw [g3]; exact fun q => by cases q) q1 rfl rfl hdg fun H' e1 e2 e3 => ?_
  rw [(jidx hj).2] at e1 ⊢
  refine h D H' _ cells slots ls (jsetF hi h1 e2 e3 rfl e1 (jmt_ast hn g2)) (fun q hq => ?_) h3 h4 h5
  rcases List.mem_append.mp hq with hq | hq
  · exact h2 q hq
  · rw [List.mem_singleton.mp hq]; exact gN rfl
theorem jr_dast (i : Nat) {a n : Nat} {vs : List Value} (hi : Φ[i]? = some (jA false a ((1, 3), vs))) {j : Int32} (hj : j.toInt = (n : Int)) (hn : n < vs.length) {x : UInt64} {v : Value} (hv : .double x = v) (hdg : decode M.1 pc = .ok (.dastore, 1))
    (hΦ : Φ.set i (jA false a ((1, 3), vs.set n v)) = Φ') (h : jT M l G d C Q X Φ' (pc + 1) lv rest b) : jT M l G d C Q X Φ pc lv (.double x :: .int j :: .ref a :: rest) b := by
  subst hΦ
  subst hv
  obtain ⟨p, e, s, m, args, below, meth, c, F⟩ := X
  intro D H locs cells slots ls h1 h2 h3 h4 h5
  obtain ⟨gN, cell, g1, g2⟩ := jat (s := s) hi h1
  obtain ⟨q1, q2⟩ := jarr_in hj (List.getElem?_eq_getElem hn) g2
  have g3 : cell = arrV (jAid G 3) vs.length (fun j => vs.getD j .null) := g2
  refine W.dast D.1 D.2.1 g1 (by rw [g3]; exact D.2.2.2.2.2.2.2.1.ar 3 _ rfl _ _) (by rw [g3]; exact fun q => by cases q) q1 rfl rfl hdg fun H' e1 e2 e3 => ?_
  rw [(jidx hj).2] at e1 ⊢
  refine h D H' _ cells slots ls (jsetF hi h1 e2 e3 rfl e1 (jmt_ast hn g2)) (fun q hq => ?_) h3 h4 h5
  rcases List.mem_append.mp hq with hq | hq
  · exact h2 q hq
  · rw [List.mem_singleton.mp hq]; exact gN rfl
theorem jr_bast (i : Nat) {a n : Nat} {vs : List Value} (hi : Φ[i]? = some (jA false a ((1, 0), vs))) {j : Int32} (hj : j.toInt = (n : Int)) (hn : n < vs.length) {x : Int32} {v : Value} (hv : (narrow .byte (.int x)) = v) (hdg : decode M.1 pc = .ok (.bastore, 1))
    (hΦ : Φ.set i (jA false a ((1, 0), vs.set n v)) = Φ') (h : jT M l G d C Q X Φ' (pc + 1) lv rest b) : jT M l G d C Q X Φ pc lv (.int x :: .int j :: .ref a :: rest) b := by
  subst hΦ
  subst hv
  obtain ⟨p, e, s, m, args, below, meth, c, F⟩ := X
  intro D H locs cells slots ls h1 h2 h3 h4 h5
  obtain ⟨gN, cell, g1, g2⟩ := jat (s := s) hi h1
  obtain ⟨q1, q2⟩ := jarr_in hj (List.getElem?_eq_getElem hn) g2
  have g3 : cell = arrV (jAid G 0) vs.length (fun j => vs.getD j .null) := g2
  refine W.bast D.1 D.2.1 g1 (by rw [g3]; exact D.2.2.2.2.2.2.2.1.ar 0 _ rfl _ _) (by rw [g3]; exact fun q => by cases q) q1 rfl rfl hdg fun H' e1 e2 e3 => ?_
  rw [(jidx hj).2] at e1 ⊢
  refine h D H' _ cells slots ls (jsetF hi h1 e2 e3 rfl e1 (jmt_ast hn g2)) (fun q hq => ?_) h3 h4 h5
  rcases List.mem_append.mp hq with hq | hq
  · exact h2 q hq
  · rw [List.mem_singleton.mp hq]; exact gN rfl
theorem jr_zast (i : Nat) {a n : Nat} {vs : List Value} (hi : Φ[i]? = some (jA false a ((1, 4), vs))) {j : Int32} (hj : j.toInt = (n : Int)) (hn : n < vs.length) {x : Int32} {v : Value} (hv : (narrow .boolean (.int x)) = v) (hdg : decode M.1 pc = .ok (.bastore, 1))
    (hΦ : Φ.set i (jA false a ((1, 4), vs.set n v)) = Φ') (h : jT M l G d C Q X Φ' (pc + 1) lv rest b) : jT M l G d C Q X Φ pc lv (.int x :: .int j :: .ref a :: rest) b := by
  subst hΦ
  subst hv
  obtain ⟨p, e, s, m, args, below, meth, c, F⟩ := X
  intro D H locs cells slots ls h1 h2 h3 h4 h5
  obtain ⟨gN, cell, g1, g2⟩ := jat (s := s) hi h1
  obtain ⟨q1, q2⟩ := jarr_in hj (List.getElem?_eq_getElem hn) g2
  have g3 : cell = arrV (jAid G 4) vs.length (fun j => vs.getD j .null) := g2
  refine W.zast D.1 D.2.1 g1 (by rw [g3]; exact D.2.2.2.2.2.2.2.1.ar 4 _ rfl _ _) (by rw [g3]; exact fun q => by cases q) q1 rfl rfl hdg fun H' e1 e2 e3 => ?_
  rw [(jidx hj).2] at e1 ⊢
  refine h D H' _ cells slots ls (jsetF hi h1 e2 e3 rfl e1 (jmt_ast hn g2)) (fun q hq => ?_) h3 h4 h5
  rcases List.mem_append.mp hq with hq | hq
  · exact h2 q hq
  · rw [List.mem_singleton.mp hq]; exact gN rfl
theorem jr_aald (i : Nat) {f : Bool} {a n k : Nat} {vs : List Value} (hi : Φ[i]? = some (jA f a ((1, k), vs))) {E : String} (hk : jty[k]? = some (.object E)) {j : Int32} (hj : j.toInt = (n : Int)) {v : Value} (hv : vs[n]? = some v) (hdg : decode M.1 pc = .ok (.aaload, 1))
    (h : jT M l G d C Q X Φ (pc + 1) lv (v :: rest) b) : jT M l G d C Q X Φ pc lv (.int j :: .ref a :: rest) b := by
  obtain ⟨p, e, s, m, args, below, meth, c, F⟩ := X
  intro D H locs cells slots ls h1 h2 h3 h4 h5
  obtain ⟨-, cell, g1, g2⟩ := jat (s := s) hi h1
  obtain ⟨q1, q2⟩ := jarr_in hj hv g2
  have g3 : cell = arrV (jAid G k) vs.length (fun j => vs.getD j .null) := g2
  exact W.aald (ty := .object E) D.1 D.2.1 g1 (by rw [g3]; exact D.2.2.2.2.2.2.2.1.ar k _ hk _ _) rfl (by rw [g3]; exact fun q => by cases q) q1 q2 rfl rfl hdg (h D H locs cells slots ls h1 h2 h3 h4 h5)
theorem jr_aastN (i : Nat) {a n k : Nat} {vs : List Value} (hi : Φ[i]? = some (jA false a ((1, k), vs))) {E : String} (hk : jty[k]? = some (.object E)) {j : Int32} (hj : j.toInt = (n : Int)) (hn : n < vs.length) (hdg : decode M.1 pc = .ok (.aastore, 1))
    (hΦ : Φ.set i (jA false a ((1, k), vs.set n .null)) = Φ') (h : jT M l G d C Q X Φ' (pc + 1) lv rest b) : jT M l G d C Q X Φ pc lv (.null :: .int j :: .ref a :: rest) b := by
  subst hΦ
  obtain ⟨p, e, s, m, args, below, meth, c, F⟩ := X
  intro D H locs cells slots ls h1 h2 h3 h4 h5
  obtain ⟨gN, cell, g1, g2⟩ := jat (s := s) hi h1
  obtain ⟨q1, q2⟩ := jarr_in hj (List.getElem?_eq_getElem hn) g2
  have g3 : cell = arrV (jAid G k) vs.length (fun j => vs.getD j .null) := g2
  refine va_WaastN (C := E) D.1 D.2.1 g1 (by rw [g3]; exact D.2.2.2.2.2.2.2.1.ar k _ hk _ _) (by rw [g3]; exact fun q => by cases q) q1 rfl rfl hdg fun H' e1 e2 e3 => ?_
  rw [(jidx hj).2] at e1 ⊢
  refine h D H' _ cells slots ls (jsetF hi h1 e2 e3 rfl e1 (jmt_ast hn g2)) (fun q hq => ?_) h3 h4 h5
  rcases List.mem_append.mp hq with hq | hq
  · exact h2 q hq
  · rw [List.mem_singleton.mp hq]; exact gN rfl
/-- v is an object of a known class, or an array of a known kind, castable to E -/
def jE (E : String) (v : Nat) : jP := jbun (fun x : Nat × Nat => (x.1 = 0 ∧ ∃ r, jcl[x.2]? = some r ∧ (r.1 = E ∨ (r.1, E) ∈ jca)) ∨ (x.1 = 2 ∧ ∃ ty, jtr[x.2]? = some ty ∧ (∀ c, ty ≠ .object c) ∧ ("[" ++ ty.toString, E) ∈ jca)) (fun x => [jA true v (x, [])])
theorem jE_of {E : String} {v : Nat} {h : jH} {x : Nat × Nat} (hx : (x.1 = 0 ∧ ∃ r, jcl[x.2]? = some r ∧ (r.1 = E ∨ (r.1, E) ∈ jca)) ∨ (x.1 = 2 ∧ ∃ ty, jtr[x.2]? = some ty ∧ (∀ c, ty ≠ .object c) ∧ ("[" ++ ty.toString, E) ∈ jca)) (hh : jA true v (x, []) h) : jE E v h := ⟨x, hx, jsl_one.mpr hh⟩
theorem jpers_E {E : String} {v : Nat} : jpers (jE E v) := jpers_bun fun x _ P hP => by rw [List.mem_singleton.mp hP]; exact jpers_A
theorem jE_spec {s : State} (hK : jKn G s) {F : List jP} {H : Heap} {i : Nat} {E : String} {v : Nat} (hi : Φ[i]? = some (jE E v)) (h : jsat G (Φ ++ F) H) {comp : ClassId} (hc : s.vm.findClass E = some comp) :
    ∃ cv : Cell, H[v]? = some cv ∧ cv.vm = .none ∧ (∃ kv : Class, s.vm.classes[cv.cls]? = some kv) ∧ s.vm.assignable cv.cls comp = true := by
  have hi' : (Φ ++ F)[i]? = some (jE E v) := by rw [List.getElem?_append_left (jlt hi)]; exact hi
  have h2 : jsat G (jE E v :: (Φ ++ F)) H := jsat_dup hi' jpers_E h
  obtain ⟨x, hx, h3⟩ := jsat_open h2
  obtain ⟨-, cell, g1, g2⟩ := jsat_get (i := 0) (f := true) (a := v) (o := (x, [])) rfl h3
  obtain ⟨t, k⟩ := x
  have ca : ∀ {C : String} {c0 : ClassId}, (C, E) ∈ jca → s.vm.findClass C = some c0 → s.vm.assignable c0 comp = true := fun hm h9 => by
    obtain ⟨c1, t1, f1, f2, f3⟩ := Cond.castable_spec (va_Nw.use (A := #[]) rfl (hK.ca _ hm))
    cases h9.symm.trans f1
    cases hc.symm.trans f2
    exact f3
  rcases hx with ⟨e, r, hr, hE⟩ | ⟨e, ty, hty, hno, hE⟩
  · dsimp only at e hr
    subst e
    obtain ⟨q1, -, r', q2, q3, -⟩ := g2
    cases Option.some.inj (q2.symm.trans hr)
    obtain ⟨-, hat⟩ := hK.cl.1 k _ hr
    have hat' : ClassAt s r.1 (jCid G k) := hat
    refine ⟨cell, g1, q1, by rw [q3]; exact hat'.2.elim fun z hz => ⟨z, hz.1⟩, ?_⟩
    rw [q3]
    rcases hE with hE | hE
    · have : comp = jCid G k := Option.some.inj (hc.symm.trans (by rw [← hE]; exact hat'.1))
      rw [this]; exact va_assign hat'
    · exact ca hE hat'.1
  · dsimp only at e hty
    subst e
    obtain ⟨q1, q3⟩ := g2
    have hra := hK.ra k _ hty
    have hfc : s.vm.findClass ("[" ++ ty.toString) = some (jAid G k) := by
      cases ty <;> first | exact hra | exact absurd rfl (hno _)
    obtain ⟨kz, hkz, -⟩ := Vm.findClass_spec hfc
    have q4 : cell.cls = jAid G k := q3
    refine ⟨cell, g1, q1, ⟨kz, by rw [q4]; exact hkz⟩, ?_⟩
    rw [q4]
    exact ca hE hfc
theorem jr_aast (i jv : Nat) {a n k v : Nat} {vs : List Value} (hi : Φ[i]? = some (jA false a ((1, k), vs))) {E : String} (hk : jtr[k]? = some (.object E)) (hk' : jty[k]? = some (.object E)) (hjv : Φ[jv]? = some (jE E v)) {j : Int32} (hj : j.toInt = (n : Int)) (hn : n < vs.length) (hdg : decode M.1 pc = .ok (.aastore, 1))
    (hΦ : Φ.set i (jA false a ((1, k), vs.set n (.ref v))) = Φ') (h : jT M l G d C Q X Φ' (pc + 1) lv rest b) : jT M l G d C Q X Φ pc lv (.ref v :: .int j :: .ref a :: rest) b := by
  subst hΦ
  obtain ⟨p, e, s, m, args, below, meth, c, F⟩ := X
  intro D H locs cells slots ls h1 h2 h3 h4 h5
  have hK := D.2.2.2.2.2.2.2.1
  obtain ⟨gN, cell, g1, g2⟩ := jat (s := s) hi h1
  obtain ⟨q1, q2⟩ := jarr_in hj (List.getElem?_eq_getElem hn) g2
  have g3 : cell = arrV (jAid G k) vs.length (fun j => vs.getD j .null) := g2
  obtain ⟨kA, comp, k1, k2, k3, k4⟩ := hK.ra k _ hk
  obtain ⟨kE, hkE, -⟩ := Vm.findClass_spec k3
  obtain ⟨cv, c1, c2, ⟨kv, c3⟩, c4⟩ := jE_spec hK hjv h1 k3
  refine W.aast D.1 D.2.1 g1 (fun q h => by rw [g3] at h; cases h) (by rw [g3]; exact fun h => by cases h) (k := kA) (by rw [g3]; exact k1) k2 rfl hkE ⟨fun q => q1 (Or.inl q), Nat.not_le.mp fun q => q1 (Or.inr q)⟩ c1 (fun q h => by rw [c2] at h; cases h) c3 c4 rfl rfl hdg fun H' e1 e2 e3 => ?_
  rw [(jidx hj).2] at e1 ⊢
  refine h D H' _ cells slots ls (jsetF hi h1 e2 e3 rfl e1 (jmt_ast hn g2)) (fun q hq => ?_) h3 h4 h5
  rcases List.mem_append.mp hq with hq | hq
  · exact h2 q hq
  · rw [List.mem_singleton.mp hq]; exact gN rfl
theorem jr_anew (k : Nat) {E : String} (hk : jtr[k]? = some (.object E)) (hE : E ∈ jao) {index : Nat} (hcl : Cond.classLink M.2.1 index E ∈ lw_all) {n : Int32} {N u : Nat} (hn : n.toInt = N) (hN : N * 4 ≤ 536870912) (hu : N ≤ 4 * u) (hu1 : 1 ≤ u) (hb : u ≤ b) (hdg : decode M.1 pc = .ok (.anewarray index, 3))
    (h : ∀ a : Nat, jT M l G d C Q X (jA false a ((1, k), List.replicate N .null) :: Φ) (pc + 3) lv (.ref a :: rest) (b - u)) : jT M l G d C Q X Φ pc lv (.int n :: rest) b := by
  obtain ⟨p, e, s, m, args, below, meth, c, F⟩ := X
  intro D H locs cells slots ls h1 h2 h3 h4 h5
  have hts := D.2.2.2.2.2.2.1
  have hK := D.2.2.2.2.2.2.2.1
  obtain ⟨hn0, hnN⟩ := jidx hn
  refine W.anew D.1 D.2.1 D.2.2.2.1 (hts _ hcl) (va_AO.use (hK.ao _ hE)) rfl hdg rfl hn0 (by rw [hnN]; exact hN) (by show cells + 1 ≤ C; omega) (by rw [hnN]; show slots + N ≤ 4 * C; omega) fun cA kA comp e1 e2 e3 e4 => ?_
  obtain ⟨kA', comp', r1, r2, r3, r4⟩ := hK.ra k _ hk
  have hid : jAid G k = cA := Option.some.inj (r4.symm.trans e1)
  refine W.widen (k := cells + u) (n := slots + 4 * u) (by omega) (by rw [hnN]; omega) ?_
  refine h H.size D _ locs (cells + u) (slots + 4 * u) ls ?_ h2 (by omega) (by omega) h5
  refine jsat_new h1 (by simp) (fun q hq => by rw [Array.getElem?_push_lt hq, Array.getElem?_eq_getElem hq]) (by simp; rfl) ?_
  show _ = arrV (jAid G k) (List.replicate N _).length _
  rw [hid, List.length_replicate]
  refine congrArg (fun z => ({ cls := cA, slots := z, vm := .none } : Cell)) ?_
  rw [hnN]
  apply Array.ext (by simp)
  intro i hi1 hi2
  simp at hi1
  simp [List.getD_eq_getElem?_getD, List.getElem?_replicate, hi1, defaultValue]
theorem jr_cast (i : Nat) {a : Nat} {E : String} (hi : Φ[i]? = some (jE E a)) {index : Nat} (hcl : Cond.classLink M.2.1 index E ∈ lw_all) (hdg : decode M.1 pc = .ok (.checkcast index, 3))
    (h : jT M l G d C Q X Φ (pc + 3) lv (.ref a :: rest) b) : jT M l G d C Q X Φ pc lv (.ref a :: rest) b := by
  obtain ⟨p, e, s, m, args, below, meth, c, F⟩ := X
  intro D H locs cells slots ls h1 h2 h3 h4 h5
  have hts := D.2.2.2.2.2.2.1
  have hK := D.2.2.2.2.2.2.2.1
  intro T hT Y
  have hpl : e.platform.magicAccessors = ({} : Platform).magicAccessors := by rw [Y.admits.platform]
  obtain ⟨c5, hc5, -⟩ := Cond.classLink_spec D.2.2.2.1 (hts _ hcl) e.platform hpl
  obtain ⟨cv, g1, g2, -, g4⟩ := jE_spec hK hi h1 hc5
  obtain ⟨vm', Y', st⟩ := Y.checkcastYes D.1 D.2.2.2.1 (hts _ hcl) (by rw [hT]; exact g1) (by rw [g2]; rfl) hc5 g4 (g := F0 m pc ls (.ref a :: rest)) rfl rfl (by rw [D.2.1]; exact hdg)
  obtain ⟨t, a1, b1⟩ := h D H locs cells slots ls h1 h2 h3 h4 h5 (T.setVm vm') hT Y'
  exact ⟨t, st t a1, b1⟩
theorem jr_inst (i : Nat) {a : Nat} {E : String} (hi : Φ[i]? = some (jE E a)) {index : Nat} (hcl : Cond.classLink M.2.1 index E ∈ lw_all) (hdg : decode M.1 pc = .ok (.instanceof index, 3))
    (h : jT M l G d C Q X Φ (pc + 3) lv (.int 1 :: rest) b) : jT M l G d C Q X Φ pc lv (.ref a :: rest) b := by
  obtain ⟨p, e, s, m, args, below, meth, c, F⟩ := X
  intro D H locs cells slots ls h1 h2 h3 h4 h5
  have hts := D.2.2.2.2.2.2.1
  have hK := D.2.2.2.2.2.2.2.1
  intro T hT Y
  have hpl : e.platform.magicAccessors = ({} : Platform).magicAccessors := by rw [Y.admits.platform]
  obtain ⟨c5, hc5, -⟩ := Cond.classLink_spec D.2.2.2.1 (hts _ hcl) e.platform hpl
  obtain ⟨cv, g1, g2, -, g4⟩ := jE_spec hK hi h1 hc5
  obtain ⟨vm', Y', st⟩ := Y.instanceofYes D.1 D.2.2.2.1 (hts _ hcl) (by rw [hT]; exact g1) (by rw [g2]; rfl) hc5 g4 (g := F0 m pc ls (.ref a :: rest)) rfl rfl (by rw [D.2.1]; exact hdg)
  obtain ⟨t, a1, b1⟩ := h D H locs cells slots ls h1 h2 h3 h4 h5 (T.setVm vm') hT Y'
  exact ⟨t, st t a1, b1⟩
theorem jr_ldcS (k : Nat) {q : String × Nat × String} (hk : jks[k]? = some q) (ho : q.1 = M.2.1) (hdg : decode M.1 pc = .ok (.ldc q.2.1, 2))
    (h : jT M l G d C Q X Φ (pc + 2) lv (.ref (jKA G k) :: rest) b) : jT M l G d C Q X Φ pc lv rest b := by
  obtain ⟨p, e, s, m, args, below, meth, c, F⟩ := X
  intro D H locs cells slots ls h1 h2 h3 h4 h5
  have hR := D.2.2.2.2.2.2.2.1.ks k q hk
  rw [ho] at hR
  exact va_ldcS D.1 D.2.1 D.2.2.2.1 hR hdg (h D H locs cells slots ls h1 h2 h3 h4 h5)
theorem jr_g0 (h : jG0 G → jT M l G d C Q X Φ pc lv rest b) : jT M l G d C Q X Φ pc lv rest b := by
  obtain ⟨p, e, s, m, args, below, meth, c, F⟩ := X
  intro D
  exact h D.2.2.2.2.2.2.2.1.g0 D
end JH
