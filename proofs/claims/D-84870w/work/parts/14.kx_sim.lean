section KXT
variable {p : Program} {l : Launch} {e : Env} {R : Room} {s : State} {m : MethodId} {args : Array Value} {below : List Frame} {meth : Method} {c : Code} {H : Heap} {locs : List Loc} {cells slots : Nat} {Q : State → Prop}
variable {cc : ByteArray} {pc : Nat} {ls : Array Slot} {D : kx_G} {X : kx_X} {nL : Nat} {own : String} {lv : kx_L} {st : List Value}
theorem kx_Kb {V : kx_V} {U : State} {H : Heap} (h : kx_F V D U H) : kx_K (kx_tl V) D (kx_cl V) U := h.1
set_option maxHeartbeats 4000000 in
set_option maxRecDepth 100000 in
theorem kx_step (V : kx_V) (hV : kx_ok V) (hx : p.tables.exec = Jvm.exec) (hb : c.code = cc) (hts : ∀ w ∈ kx_Tb V, w.before args s = true) (hown : s.vm.findClass own = some m.cls) (hF : kx_F V D s s.heap) (hl : lv_has ls nL lv) (hR : kx_R D (kx_cl V) X H) (hS : va_S (kx_A V) s.heap H locs)
    {i : Instr} {len : Nat} (hd : decode cc pc = .ok (i, len)) {r : kx_N} (h : kx_st1 V own meth.name nL i len pc lv st X = some r) (hc : cells + r.2.2.2.2.1 ≤ R.cells) (hs : slots + r.2.2.2.2.2 ≤ R.slots)
    (kk : ∀ (ls' : Array Slot) (H' : Heap) (locs' : List Loc), lv_has ls' nL r.2.1 → kx_R D (kx_cl V) r.2.2.2.1 H' → va_S (kx_A V) s.heap H' locs' → W p l e R s m args below meth c H' locs' (cells + r.2.2.2.2.1) (slots + r.2.2.2.2.2) Q (F0 m r.1 ls' r.2.2.1)) :
    W p l e R s m args below meth c H locs cells slots Q (F0 m pc ls st) := by
  obtain ⟨pc', lv', st', X', dc, ds⟩ := r
  dsimp only at hc hs kk
  have hK := hF.1
  cases i with
  | iconst n =>
    simp only [kx_st1] at h
    split at h
    · rename_i elen
      subst elen
      cases h
      exact lv_iconst hx hb hd rfl (kk ls H locs hl hR hS)
    · cases h
  | bipush n =>
    simp only [kx_st1] at h
    split at h
    · rename_i elen
      subst elen
      cases h
      exact lv_bipush hx hb hd rfl (kk ls H locs hl hR hS)
    · cases h
  | sipush n =>
    simp only [kx_st1] at h
    split at h
    · rename_i elen
      subst elen
      cases h
      exact lv_sipush hx hb hd rfl (kk ls H locs hl hR hS)
    · cases h
  | lconst n =>
    simp only [kx_st1] at h
    split at h
    · rename_i elen
      subst elen
      cases h
      exact lv_lconst hx hb hd rfl (kk ls H locs hl hR hS)
    · cases h
  | aconst_null =>
    simp only [kx_st1] at h
    split at h
    · rename_i elen
      subst elen
      cases h
      exact lv_null hx hb hd (kk ls H locs hl hR hS)
    · cases h
  | iload_n k =>
    simp only [kx_st1] at h
    split at h
    · rename_i elen
      subst elen
      split at h
      · rename_i heq
        cases h
        exact lv_iload_n hx hb hd rfl (kx_lk_at hl heq) (kk ls H locs hl hR hS)
      · cases h
    · cases h
  | iload k =>
    simp only [kx_st1] at h
    split at h
    · rename_i elen
      subst elen
      split at h
      · rename_i heq
        cases h
        exact lv_iload hx hb hd (kx_lk_at hl heq) (kk ls H locs hl hR hS)
      · cases h
    · cases h
  | lload_n k =>
    simp only [kx_st1] at h
    split at h
    · rename_i elen
      subst elen
      split at h
      · rename_i heq
        cases h
        exact lv_lload_n hx hb hd rfl (kx_lk_at hl heq) (kk ls H locs hl hR hS)
      · cases h
    · cases h
  | lload k =>
    simp only [kx_st1] at h
    split at h
    · rename_i elen
      subst elen
      split at h
      · rename_i heq
        cases h
        exact lv_lload hx hb hd (kx_lk_at hl heq) (kk ls H locs hl hR hS)
      · cases h
    · cases h
  | aload_n k =>
    simp only [kx_st1] at h
    split at h
    · rename_i elen
      subst elen
      split at h
      · rename_i heq
        cases h
        exact lv_aload_n hx hb hd rfl (kx_lk_at hl heq) (kk ls H locs hl hR hS)
      · rename_i heq
        cases h
        exact lv_aload_nN hx hb hd rfl (kx_lk_at hl heq) (kk ls H locs hl hR hS)
      · cases h
    · cases h
  | aload k =>
    simp only [kx_st1] at h
    split at h
    · rename_i elen
      subst elen
      split at h
      · rename_i heq
        cases h
        exact lv_aload hx hb hd (kx_lk_at hl heq) (kk ls H locs hl hR hS)
      · rename_i heq
        cases h
        exact lv_aloadN hx hb hd (kx_lk_at hl heq) (kk ls H locs hl hR hS)
      · cases h
    · cases h
  | istore_n k =>
    simp only [kx_st1] at h
    split at h
    · rename_i elen
      subst elen
      split at h
      · split at h
        · rename_i heq
          unfold kx_sto at heq
          split at heq
          · rename_i hlt
            cases heq
            cases h
            exact lv_istore_n hx hb hd rfl hl hlt rfl (fun ls hl => kk ls H locs hl hR hS)
          · cases heq
        · cases h
      · cases h
    · cases h
  | istore k =>
    simp only [kx_st1] at h
    split at h
    · rename_i elen
      subst elen
      split at h
      · split at h
        · rename_i heq
          unfold kx_sto at heq
          split at heq
          · rename_i hlt
            cases heq
            cases h
            exact lv_istore hx hb hd hl hlt rfl (fun ls hl => kk ls H locs hl hR hS)
          · cases heq
        · cases h
      · cases h
    · cases h
  | lstore_n k =>
    simp only [kx_st1] at h
    split at h
    · rename_i elen
      subst elen
      split at h
      · split at h
        · rename_i heq
          unfold kx_stw at heq
          split at heq
          · rename_i hlt
            cases heq
            cases h
            exact lv_lstore_n hx hb hd rfl hl hlt rfl (fun ls hl => kk ls H locs hl hR hS)
          · cases heq
        · cases h
      · cases h
    · cases h
  | lstore k =>
    simp only [kx_st1] at h
    split at h
    · rename_i elen
      subst elen
      split at h
      · split at h
        · rename_i heq
          unfold kx_stw at heq
          split at heq
          · rename_i hlt
            cases heq
            cases h
            exact lv_lstore hx hb hd hl hlt rfl (fun ls hl => kk ls H locs hl hR hS)
          · cases heq
        · cases h
      · cases h
    · cases h
  | astore_n k =>
    simp only [kx_st1] at h
    split at h
    · rename_i elen
      subst elen
      split at h
      · split at h
        · rename_i heq
          unfold kx_sto at heq
          split at heq
          · rename_i hlt
            cases heq
            cases h
            exact lv_astore_n hx hb hd rfl hl hlt rfl (fun ls hl => kk ls H locs hl hR hS)
          · cases heq
        · cases h
      · split at h
        · rename_i heq
          unfold kx_sto at heq
          split at heq
          · rename_i hlt
            cases heq
            cases h
            exact lv_astore_nN hx hb hd rfl hl hlt rfl (fun ls hl => kk ls H locs hl hR hS)
          · cases heq
        · cases h
      · cases h
    · cases h
  | astore k =>
    simp only [kx_st1] at h
    split at h
    · rename_i elen
      subst elen
      split at h
      · split at h
        · rename_i heq
          unfold kx_sto at heq
          split at heq
          · rename_i hlt
            cases heq
            cases h
            exact lv_astore hx hb hd hl hlt rfl (fun ls hl => kk ls H locs hl hR hS)
          · cases heq
        · cases h
      · split at h
        · rename_i heq
          unfold kx_sto at heq
          split at heq
          · rename_i hlt
            cases heq
            cases h
            exact lv_astoreN hx hb hd hl hlt rfl (fun ls hl => kk ls H locs hl hR hS)
          · cases heq
        · cases h
      · cases h
    · cases h
  | iinc k n =>
    simp only [kx_st1] at h
    split at h
    · rename_i elen
      subst elen
      split at h
      · rename_i hk
        obtain ⟨q, hq⟩ := kx_lk_ix hk
        split at h
        · rename_i heq
          unfold kx_sto at heq
          split at heq
          · rename_i hlt
            cases heq
            cases h
            exact lv_iinc hx hb hd hl hq rfl hlt rfl (fun ls hl => kk ls H locs hl hR hS)
          · cases heq
        · cases h
      · cases h
    · cases h
  | iadd =>
    simp only [kx_st1] at h
    split at h
    · rename_i elen
      subst elen
      split at h
      · cases h
        exact lv_iadd hx hb hd (kk ls H locs hl hR hS)
      · cases h
    · cases h
  | isub =>
    simp only [kx_st1] at h
    split at h
    · rename_i elen
      subst elen
      split at h
      · cases h
        exact lv_isub hx hb hd (kk ls H locs hl hR hS)
      · cases h
    · cases h
  | imul =>
    simp only [kx_st1] at h
    split at h
    · rename_i elen
      subst elen
      split at h
      · cases h
        exact lv_imul hx hb hd (kk ls H locs hl hR hS)
      · cases h
    · cases h
  | iand =>
    simp only [kx_st1] at h
    split at h
    · rename_i elen
      subst elen
      split at h
      · cases h
        exact lv_iand hx hb hd (kk ls H locs hl hR hS)
      · cases h
    · cases h
  | ior =>
    simp only [kx_st1] at h
    split at h
    · rename_i elen
      subst elen
      split at h
      · cases h
        exact lv_ior hx hb hd (kk ls H locs hl hR hS)
      · cases h
    · cases h
  | ixor =>
    simp only [kx_st1] at h
    split at h
    · rename_i elen
      subst elen
      split at h
      · cases h
        exact lv_ixor hx hb hd (kk ls H locs hl hR hS)
      · cases h
    · cases h
  | ineg =>
    simp only [kx_st1] at h
    split at h
    · rename_i elen
      subst elen
      split at h
      · cases h
        exact lv_ineg hx hb hd (kk ls H locs hl hR hS)
      · cases h
    · cases h
  | ishl =>
    simp only [kx_st1] at h
    split at h
    · rename_i elen
      subst elen
      split at h
      · cases h
        exact lv_ishl hx hb hd (kk ls H locs hl hR hS)
      · cases h
    · cases h
  | ishr =>
    simp only [kx_st1] at h
    split at h
    · rename_i elen
      subst elen
      split at h
      · cases h
        exact lv_ishr hx hb hd (kk ls H locs hl hR hS)
      · cases h
    · cases h
  | ladd =>
    simp only [kx_st1] at h
    split at h
    · rename_i elen
      subst elen
      split at h
      · cases h
        exact lv_ladd hx hb hd (kk ls H locs hl hR hS)
      · cases h
    · cases h
  | lsub =>
    simp only [kx_st1] at h
    split at h
    · rename_i elen
      subst elen
      split at h
      · cases h
        exact lv_lsub hx hb hd (kk ls H locs hl hR hS)
      · cases h
    · cases h
  | lmul =>
    simp only [kx_st1] at h
    split at h
    · rename_i elen
      subst elen
      split at h
      · cases h
        exact lv_lmul hx hb hd (kk ls H locs hl hR hS)
      · cases h
    · cases h
  | land =>
    simp only [kx_st1] at h
    split at h
    · rename_i elen
      subst elen
      split at h
      · cases h
        exact lv_land hx hb hd (kk ls H locs hl hR hS)
      · cases h
    · cases h
  | lor =>
    simp only [kx_st1] at h
    split at h
    · rename_i elen
      subst elen
      split at h
      · cases h
        exact lv_lor hx hb hd (kk ls H locs hl hR hS)
      · cases h
    · cases h
  | lneg =>
    simp only [kx_st1] at h
    split at h
    · rename_i elen
      subst elen
      split at h
      · cases h
        exact lv_lneg hx hb hd (kk ls H locs hl hR hS)
      · cases h
    · cases h
  | iushr =>
    simp only [kx_st1] at h
    split at h
    · rename_i elen
      subst elen
      split at h
      · cases h
        exact lv_iushr hx hb hd rfl (kk ls H locs hl hR hS)
      · cases h
    · cases h
  | lshl =>
    simp only [kx_st1] at h
    split at h
    · rename_i elen
      subst elen
      split at h
      · cases h
        exact lv_lshl hx hb hd rfl (kk ls H locs hl hR hS)
      · cases h
    · cases h
  | i2l =>
    simp only [kx_st1] at h
    split at h
    · rename_i elen
      subst elen
      split at h
      · cases h
        exact lv_i2l hx hb hd rfl (kk ls H locs hl hR hS)
      · cases h
    · cases h
  | l2i =>
    simp only [kx_st1] at h
    split at h
    · rename_i elen
      subst elen
      split at h
      · cases h
        exact lv_l2i hx hb hd rfl (kk ls H locs hl hR hS)
      · cases h
    · cases h
  | i2b =>
    simp only [kx_st1] at h
    split at h
    · rename_i elen
      subst elen
      split at h
      · cases h
        exact lv_i2b hx hb hd rfl (kk ls H locs hl hR hS)
      · cases h
    · cases h
  | i2c =>
    simp only [kx_st1] at h
    split at h
    · rename_i elen
      subst elen
      split at h
      · cases h
        exact lv_i2c hx hb hd rfl (kk ls H locs hl hR hS)
      · cases h
    · cases h
  | lcmp =>
    simp only [kx_st1] at h
    split at h
    · rename_i elen
      subst elen
      split at h
      · cases h
        exact W.lcmp hx hb hd (kk ls H locs hl hR hS)
      · cases h
    · cases h
  | idiv =>
    simp only [kx_st1] at h
    split at h
    · rename_i elen
      subst elen
      split at h
      · split at h
        · cases h
        · rename_i hne
          cases h
          exact lv_idiv hx hb hd hne (kk ls H locs hl hR hS)
      · cases h
    · cases h
  | irem =>
    simp only [kx_st1] at h
    split at h
    · rename_i elen
      subst elen
      split at h
      · split at h
        · cases h
        · rename_i hne
          cases h
          exact lv_irem hx hb hd hne (kk ls H locs hl hR hS)
      · cases h
    · cases h
  | ldiv =>
    simp only [kx_st1] at h
    split at h
    · rename_i elen
      subst elen
      split at h
      · split at h
        · cases h
        · rename_i hne
          cases h
          exact lv_ldiv hx hb hd hne (kk ls H locs hl hR hS)
      · cases h
    · cases h
  | lrem =>
    simp only [kx_st1] at h
    split at h
    · rename_i elen
      subst elen
      split at h
      · split at h
        · cases h
        · rename_i hne
          cases h
          exact lv_lrem hx hb hd hne (kk ls H locs hl hR hS)
      · cases h
    · cases h
  | dup =>
    simp only [kx_st1] at h
    split at h
    · rename_i elen
      subst elen
      split at h
      · split at h
        · rename_i hca
          cases h
          exact lv_dup hx hb hd hca (kk ls H locs hl hR hS)
        · cases h
      · cases h
    · cases h
  | pop =>
    simp only [kx_st1] at h
    split at h
    · rename_i elen
      subst elen
      split at h
      · split at h
        · rename_i hca
          cases h
          exact lv_pop hx hb hd hca (kk ls H locs hl hR hS)
        · cases h
      · cases h
    · cases h
  | dup_x1 =>
    simp only [kx_st1] at h
    split at h
    · rename_i elen
      subst elen
      split at h
      · split at h
        · rename_i hca
          cases h
          exact lv_dup_x1 hx hb hd hca.1 hca.2 (kk ls H locs hl hR hS)
        · cases h
      · cases h
    · cases h
  | dup2 =>
    simp only [kx_st1] at h
    split at h
    · rename_i elen
      subst elen
      split at h
      · split at h
        · rename_i hca
          cases h
          exact lv_dup2_11 hx hb hd hca.1 hca.2 (kk ls H locs hl hR hS)
        · cases h
      · cases h
    · cases h
  | ifCond cd off =>
    simp only [kx_st1] at h
    split at h
    · rename_i elen
      subst elen
      split at h
      · split at h
        · rename_i htg
          have ht := kx_tg_eq htg
          cases cd with
          | eq =>
            simp only [kx_c1, decide_eq_true_eq] at h
            split at h
            · rename_i hcd
              cases h
              exact lv_if_eq hx hb hd ht (fun _ => (kk ls H locs hl hR hS)) (fun q => absurd hcd q)
            · rename_i hcd
              cases h
              exact lv_if_eq hx hb hd ht (fun q => absurd q hcd) (fun _ => (kk ls H locs hl hR hS))
          | ne =>
            simp only [kx_c1, decide_eq_true_eq] at h
            split at h
            · rename_i hcd
              cases h
              exact lv_if_ne hx hb hd ht (fun _ => (kk ls H locs hl hR hS)) (fun q => absurd q hcd)
            · rename_i hcd
              cases h
              exact lv_if_ne hx hb hd ht (fun q => absurd q hcd) (fun _ => (kk ls H locs hl hR hS))
          | lt =>
            simp only [kx_c1, decide_eq_true_eq] at h
            split at h
            · rename_i hcd
              cases h
              exact lv_if_lt hx hb hd ht (fun _ => (kk ls H locs hl hR hS)) (fun q => absurd hcd q)
            · rename_i hcd
              cases h
              exact lv_if_lt hx hb hd ht (fun q => absurd q hcd) (fun _ => (kk ls H locs hl hR hS))
          | ge =>
            simp only [kx_c1, decide_eq_true_eq] at h
            split at h
            · rename_i hcd
              cases h
              exact lv_if_ge hx hb hd ht (fun _ => (kk ls H locs hl hR hS)) (fun q => absurd hcd q)
            · rename_i hcd
              cases h
              exact lv_if_ge hx hb hd ht (fun q => absurd q hcd) (fun _ => (kk ls H locs hl hR hS))
          | gt =>
            simp only [kx_c1, decide_eq_true_eq] at h
            split at h
            · rename_i hcd
              cases h
              exact lv_if_gt hx hb hd ht (fun _ => (kk ls H locs hl hR hS)) (fun q => absurd hcd q)
            · rename_i hcd
              cases h
              exact lv_if_gt hx hb hd ht (fun q => absurd q hcd) (fun _ => (kk ls H locs hl hR hS))
          | le =>
            simp only [kx_c1, decide_eq_true_eq] at h
            split at h
            · rename_i hcd
              cases h
              exact lv_if_le hx hb hd ht (fun _ => (kk ls H locs hl hR hS)) (fun q => absurd hcd q)
            · rename_i hcd
              cases h
              exact lv_if_le hx hb hd ht (fun q => absurd q hcd) (fun _ => (kk ls H locs hl hR hS))
        · cases h
      · cases h
    · cases h
  | if_icmp cd off =>
    simp only [kx_st1] at h
    split at h
    · rename_i elen
      subst elen
      split at h
      · split at h
        · rename_i htg
          have ht := kx_tg_eq htg
          cases cd with
          | eq =>
            simp only [kx_c2, decide_eq_true_eq] at h
            split at h
            · rename_i hcd
              cases h
              exact lv_icmp_eq hx hb hd ht (fun _ => (kk ls H locs hl hR hS)) (fun q => absurd hcd q)
            · rename_i hcd
              cases h
              exact lv_icmp_eq hx hb hd ht (fun q => absurd q hcd) (fun _ => (kk ls H locs hl hR hS))
          | ne =>
            simp only [kx_c2, decide_eq_true_eq] at h
            split at h
            · rename_i hcd
              cases h
              exact lv_icmp_ne hx hb hd ht (fun _ => (kk ls H locs hl hR hS)) (fun q => absurd q hcd)
            · rename_i hcd
              cases h
              exact lv_icmp_ne hx hb hd ht (fun q => absurd q hcd) (fun _ => (kk ls H locs hl hR hS))
          | lt =>
            simp only [kx_c2, decide_eq_true_eq] at h
            split at h
            · rename_i hcd
              cases h
              exact lv_icmp_lt hx hb hd ht (fun _ => (kk ls H locs hl hR hS)) (fun q => absurd hcd q)
            · rename_i hcd
              cases h
              exact lv_icmp_lt hx hb hd ht (fun q => absurd q hcd) (fun _ => (kk ls H locs hl hR hS))
          | ge =>
            simp only [kx_c2, decide_eq_true_eq] at h
            split at h
            · rename_i hcd
              cases h
              exact lv_icmp_ge hx hb hd ht (fun _ => (kk ls H locs hl hR hS)) (fun q => absurd hcd q)
            · rename_i hcd
              cases h
              exact lv_icmp_ge hx hb hd ht (fun q => absurd q hcd) (fun _ => (kk ls H locs hl hR hS))
          | gt =>
            simp only [kx_c2, decide_eq_true_eq] at h
            split at h
            · rename_i hcd
              cases h
              exact lv_icmp_gt hx hb hd ht (fun _ => (kk ls H locs hl hR hS)) (fun q => absurd hcd q)
            · rename_i hcd
              cases h
              exact lv_icmp_gt hx hb hd ht (fun q => absurd q hcd) (fun _ => (kk ls H locs hl hR hS))
          | le =>
            simp only [kx_c2, decide_eq_true_eq] at h
            split at h
            · rename_i hcd
              cases h
              exact lv_icmp_le hx hb hd ht (fun _ => (kk ls H locs hl hR hS)) (fun q => absurd hcd q)
            · rename_i hcd
              cases h
              exact lv_icmp_le hx hb hd ht (fun q => absurd q hcd) (fun _ => (kk ls H locs hl hR hS))
        · cases h
      · cases h
    · cases h
  | if_acmp cd off =>
    simp only [kx_st1] at h
    split at h
    · rename_i elen
      subst elen
      split at h
      · split at h
        · rename_i ha hb2 htg
          have ht := kx_tg_eq htg
          cases kx_rf_eq ha
          cases kx_rf_eq hb2
          cases cd with
          | eq =>
            dsimp only at h
            split at h
            · rename_i hcd
              cases h
              exact lv_acmp_eq hx hb hd ht (fun _ => (kk ls H locs hl hR hS)) (fun q => absurd hcd q)
            · rename_i hcd
              cases h
              exact lv_acmp_eq hx hb hd ht (fun q => absurd q hcd) (fun _ => (kk ls H locs hl hR hS))
          | ne =>
            dsimp only at h
            split at h
            · rename_i hcd
              cases h
              exact lv_acmp_ne hx hb hd ht (fun q => absurd hcd q) (fun _ => (kk ls H locs hl hR hS))
            · rename_i hcd
              cases h
              exact lv_acmp_ne hx hb hd ht (fun _ => (kk ls H locs hl hR hS)) (fun q => absurd q hcd)
        · cases h
      · cases h
    · cases h
  | ifnull off =>
    simp only [kx_st1] at h
    split at h
    · rename_i elen
      subst elen
      split at h
      · cases h
        exact lv_ifnull hx hb hd (kk ls H locs hl hR hS)
      · split at h
        · rename_i htg
          cases h
          exact lv_ifnullN hx hb hd (kx_tg_eq htg) (kk ls H locs hl hR hS)
        · cases h
      · cases h
    · cases h
  | ifnonnull off =>
    simp only [kx_st1] at h
    split at h
    · rename_i elen
      subst elen
      split at h
      · cases h
        exact lv_ifnonnullN hx hb hd (kk ls H locs hl hR hS)
      · split at h
        · rename_i htg
          cases h
          exact lv_ifnonnull hx hb hd (kx_tg_eq htg) (kk ls H locs hl hR hS)
        · cases h
      · cases h
    · cases h
  | goto off =>
    simp only [kx_st1] at h
    split at h
    · rename_i elen
      subst elen
      split at h
      · rename_i htg
        cases h
        exact lv_goto hx hb hd (kx_tg_eq htg) (kk ls H locs hl hR hS)
      · cases h
    · cases h
  | tableswitch dflt lo hi offs =>
    simp only [kx_st1] at h
    split at h
    · split at h
      · rename_i hout
        split at h
        · rename_i htg
          cases h
          exact lv_tableOut hx hb hd hout (kx_tg_eq htg) (kk ls H locs hl hR hS)
        · cases h
      · rename_i hin
        split at h
        · rename_i ho
          split at h
          · rename_i htg
            cases h
            exact lv_tableIn hx hb hd (fun q => hin (Or.inl q)) (fun q => hin (Or.inr q)) ho (kx_tg_eq htg) (kk ls H locs hl hR hS)
          · cases h
        · cases h
    · cases h
  | lookupswitch dflt ps =>
    simp only [kx_st1] at h
    split at h
    · split at h
      · rename_i hp
        split at h
        · rename_i htg
          cases h
          exact lv_lookup hx hb hd hp rfl (kx_tg_eq htg) (kk ls H locs hl hR hS)
        · cases h
      · cases h
    · cases h
  | ldc j =>
    simp only [kx_st1] at h
    split at h
    · rename_i elen
      subst elen
      split at h
      · rename_i hv
        cases h
        exact lv_ldc hx hb hown (hts _ (kx_ci_mem hV hv)) hd (kk ls H locs hl hR hS)
      · rename_i hn hq
        cases h
        obtain ⟨tx, hZ⟩ := hF.2.2.1 _ _ _ hq
        exact va_ldcS hx hb hown hZ hd (kk ls H locs hl hR hS)
      · cases h
    · cases h
  | ldc_w j =>
    simp only [kx_st1] at h
    split at h
    · rename_i elen
      subst elen
      split at h
      · rename_i hv
        cases h
        exact lv_ldcw hx hb hown (hts _ (kx_ci_mem hV hv)) hd (kk ls H locs hl hR hS)
      · cases h
    · cases h
  | ldc2_w j =>
    simp only [kx_st1] at h
    split at h
    · rename_i elen
      subst elen
      split at h
      · rename_i hv
        cases h
        exact lv_ldc2 hx hb hown (hts _ (kx_cL_mem hV hv)) hd (kk ls H locs hl hR hS)
      · cases h
    · cases h
  | getstatic j =>
    simp only [kx_st1] at h
    split at h
    · rename_i elen
      subst elen
      split at h
      · rename_i hf
        split at h
        · rename_i hv
          cases h
          exact va_gets hx hb (hF.2.1 _ _ _ _ hv) hS hown (hts _ (kx_fl_mem hV hf)) (fun _ q => q) hd (kk ls H locs hl hR hS)
        · cases h
      · cases h
    · cases h
  | getfield j =>
    simp only [kx_st1] at h
    split at h
    · rename_i elen
      subst elen
      split at h
      · rename_i a r
        split at h
        · rename_i ci fs ha
          split at h
          · rename_i C T N q hcl hf
            obtain ⟨qr, qn, qd⟩ := q
            split at h
            · rename_i k hk
              obtain ⟨k1, k2, k3, k4⟩ := kx_fk_eq hk
              split at h
              · rename_i v hv
                cases h
                obtain ⟨hin, -, -⟩ := hV.2.2 _ _ _ _ hcl
                have hf := kx_fl_mem hV hf
                subst k2 k3 k4
                exact kx_get hx hb hts hin hown hK hR ha hcl k k1 (hts _ hf) (fun _ q => q) hv hd (kk ls H locs hl hR hS)
              · cases h
            · cases h
          · cases h
        · cases h
      · cases h
    · cases h
  | putfield j =>
    simp only [kx_st1] at h
    split at h
    · rename_i elen
      subst elen
      split at h
      · rename_i v a r
        split at h
        · rename_i ci fs ha
          split at h
          · rename_i C T N q hcl hf
            obtain ⟨qr, qn, qd⟩ := q
            split at h
            · rename_i k hk
              obtain ⟨k1, k2, k3, k4⟩ := kx_fk_eq hk
              split at h
              · rename_i ty hty
                split at h
                · rename_i hcnd
                  obtain ⟨g1, g2, g3, g4, g5⟩ := hcnd
                  cases h
                  obtain ⟨hin, hnm, ty0, hty0⟩ := hV.2.2 _ _ _ _ hcl
                  have hf := kx_fl_mem hV hf
                  subst k2 k3 k4
                  cases hfin : (T k).2.2.2 with
                  | false => exact kx_put hx hb hts hin ty0 hty0 hnm hown hK hR hS ha g1 hcl k k1 (hts _ hf) (fun _ q => q) hfin hty g2 g3 g4 hd (fun H1 l1 hR hS => kk ls H1 l1 hl hR hS)
                  | true =>
                    rcases g5 with g5 | ⟨g5, g6⟩
                    · rw [hfin] at g5
                      cases g5
                    · exact kx_putF hx hb hts hin ty0 hty0 hnm hown hK hR hS ha g1 hcl k k1 (hts _ hf) (fun _ q => q) hfin g5 g6 hty g2 g3 g4 hd (fun H1 l1 hR hS => kk ls H1 l1 hl hR hS)
                · cases h
              · cases h
            · cases h
          · cases h
        · cases h
      · cases h
    · cases h
  | arraylength =>
    simp only [kx_st1] at h
    split at h
    · rename_i elen
      subst elen
      split at h
      · rename_i a r
        split at h
        · rename_i k x ha
          split at h
          · rename_i hk
            cases h
            exact kx_alen hx hb hK hR ha (List.getElem?_eq_getElem hk) hd (kk ls H locs hl hR hS)
          · cases h
        · split at h
          · rename_i k n f hro
            cases h
            obtain ⟨ty, -, hT⟩ := hF.2.2.2.1 _ _ _ _ hro
            exact va_tlen hx hb hT hS rfl hd (kk ls H locs hl hR hS)
          · cases h
      · cases h
    · cases h
  | iaload =>
    simp only [kx_st1] at h
    split at h
    · rename_i elen
      subst elen
      split at h
      · rename_i i a r
        split at h
        · rename_i k n f ha
          split at h
          · rename_i hcnd
            cases h
            exact kx_iald hx hb hK hR ha hcnd.1 (kx_inb_in hcnd.2) hd (kk ls H locs hl hR hS)
          · cases h
        · split at h
          · rename_i k n f hro
            split at h
            · rename_i hcnd
              cases h
              obtain ⟨ty, hty, hT⟩ := hF.2.2.2.1 _ _ _ _ hro
              cases hty.symm.trans hcnd.1
              exact va_ti hx hb hT hS (kx_inb_in hcnd.2) rfl hd (kk ls H locs hl hR hS)
            · cases h
          · cases h
      · cases h
    · cases h
  | baload =>
    simp only [kx_st1] at h
    split at h
    · rename_i elen
      subst elen
      split at h
      · rename_i i a r
        split at h
        · rename_i k n f ha
          split at h
          · rename_i hcnd
            cases h
            rcases hcnd.1 with g | g
            · exact kx_bald hx hb hK hR ha g (kx_inb_in hcnd.2) hd (kk ls H locs hl hR hS)
            · exact kx_zald hx hb hK hR ha g (kx_inb_in hcnd.2) hd (kk ls H locs hl hR hS)
          · cases h
        · split at h
          · rename_i k n f hro
            split at h
            · rename_i hcnd
              cases h
              obtain ⟨ty, hty, hT⟩ := hF.2.2.2.1 _ _ _ _ hro
              cases hty.symm.trans hcnd.1
              exact va_tb hx hb hT hS (kx_inb_in hcnd.2) rfl hd (kk ls H locs hl hR hS)
            · cases h
          · cases h
      · cases h
    · cases h
  | laload =>
    simp only [kx_st1] at h
    split at h
    · rename_i elen
      subst elen
      split at h
      · rename_i i a r
        split at h
        · rename_i k n f ha
          split at h
          · rename_i hcnd
            cases h
            exact kx_lald hx hb hK hR ha hcnd.1 (kx_inb_in hcnd.2) hd (kk ls H locs hl hR hS)
          · cases h
        · cases h
      · cases h
    · cases h
  | aaload =>
    simp only [kx_st1] at h
    split at h
    · rename_i elen
      subst elen
      split at h
      · rename_i i a r
        split at h
        · rename_i k n f ha
          split at h
          · rename_i ty hty
            split at h
            · rename_i hcnd
              cases h
              exact kx_aald hx hb hK hR ha hty hcnd.1 (kx_inb_in hcnd.2) hd (kk ls H locs hl hR hS)
            · cases h
          · cases h
        · cases h
      · cases h
    · cases h
  | iastore =>
    simp only [kx_st1] at h
    split at h
    · rename_i elen
      subst elen
      split at h
      · rename_i x i a r
        split at h
        · rename_i k n f ha
          split at h
          · rename_i hcnd
            cases h
            exact kx_iast hx hb hK hR hS ha hcnd.1 hcnd.2.1 (kx_inb_in hcnd.2.2) hd (fun H1 l1 hR hS => kk ls H1 l1 hl hR hS)
          · cases h
        · cases h
      · cases h
    · cases h
  | lastore =>
    simp only [kx_st1] at h
    split at h
    · rename_i elen
      subst elen
      split at h
      · rename_i x i a r
        split at h
        · rename_i k n f ha
          split at h
          · rename_i hcnd
            cases h
            exact kx_last hx hb hK hR hS ha hcnd.1 hcnd.2.1 (kx_inb_in hcnd.2.2) hd (fun H1 l1 hR hS => kk ls H1 l1 hl hR hS)
          · cases h
        · cases h
      · cases h
    · cases h
  | bastore =>
    simp only [kx_st1] at h
    split at h
    · rename_i elen
      subst elen
      split at h
      · rename_i x i a r
        split at h
        · rename_i k n f ha
          split at h
          · rename_i hcnd
            split at h
            · rename_i g
              cases h
              exact kx_bast hx hb hK hR hS ha hcnd.1 g (kx_inb_in hcnd.2) hd (fun H1 l1 hR hS => kk ls H1 l1 hl hR hS)
            · split at h
              · rename_i g
                cases h
                exact kx_zast hx hb hK hR hS ha hcnd.1 g (kx_inb_in hcnd.2) hd (fun H1 l1 hR hS => kk ls H1 l1 hl hR hS)
              · cases h
          · cases h
        · cases h
      · cases h
    · cases h
  | aastore =>
    simp only [kx_st1] at h
    split at h
    · rename_i elen
      subst elen
      split at h
      · rename_i v i a r
        split at h
        · rename_i k n f ha
          split at h
          · rename_i hcnd
            split at h
            · rename_i ci vs hv
              split at h
              · rename_i q hq
                split at h
                · rename_i g
                  cases h
                  exact kx_aast hx hb hK hR hS ha hcnd.1 g hv hq (kx_inb_in hcnd.2) hd (fun H1 l1 hR hS => kk ls H1 l1 hl hR hS)
                · cases h
              · cases h
            · rename_i k2 x2 hv
              split at h
              · rename_i g
                cases h
                exact kx_aastG hx hb hK hR hS ha hcnd.1 g.1 hv g.2 (kx_inb_in hcnd.2) hd (fun H1 l1 hR hS => kk ls H1 l1 hl hR hS)
              · cases h
            · cases h
          · cases h
        · cases h
      · cases h
    · cases h
  | newarray t =>
    simp only [kx_st1] at h
    split at h
    · rename_i elen
      subst elen
      split at h
      · rename_i n r
        split at h
        · rename_i a0 ha0
          split at h
          · rename_i k hk
            split at h
            · rename_i hcnd
              obtain ⟨g1, g2, g3, g4⟩ := hcnd
              cases h
              exact kx_newa hx hb (hts _ g4) hK hR hS g3 (kx_na_eq ha0) g1 g2 hc hs hd (fun H1 hR hS => kk ls H1 locs hl hR hS)
            · cases h
          · cases h
        · cases h
      · cases h
    · cases h
  | new j =>
    simp only [kx_st1] at h
    split at h
    · rename_i elen
      subst elen
      split at h
      · rename_i C hC
        split at h
        · rename_i ci hci
          split at h
          · rename_i C2 T N hcl
            split at h
            · rename_i hcnd
              obtain ⟨g1, g2, g3⟩ := hcnd
              subst g1
              cases h
              obtain ⟨hin, hnm, ty0, hty0⟩ := hV.2.2 _ _ _ _ hcl
              exact kx_new hx hb hts hin ty0 hty0 hown (hts _ (kx_kl_mem hV hC)) (hts _ g2) (hts _ g3) hK hR hS hcl (kx_dv_at hty0) hc hs hd (fun H1 hR hS => kk ls H1 locs hl hR hS)
            · cases h
          · cases h
        · cases h
      · cases h
    · cases h
  | anewarray j =>
    simp only [kx_st1] at h
    split at h
    · rename_i elen
      subst elen
      split at h
      · rename_i n r
        split at h
        · rename_i C hC
          split at h
          · rename_i hn
            split at h
            · rename_i k hk
              split at h
              · rename_i hcnd
                cases h
                exact kx_anew hx hb hown (hts _ (kx_kl_mem hV hC)) (hF.2.2.2.2.1 _ hcnd.2) hK hR hS hcnd.1 hn.1 hn.2 hc hs hd (fun H1 hR hS => kk ls H1 locs hl hR hS)
              · cases h
            · split at h
              · rename_i hCe
                split at h
                · rename_i k hk
                  split at h
                  · rename_i hcnd
                    cases h
                    subst hCe
                    exact kx_anewA hx hb hown (hts _ (kx_kl_mem hV hC)) (hF.2.2.2.2.1 _ hcnd.2) hK hR hS hcnd.1 hn.1 hn.2 hc hs hd (fun H1 hR hS => kk ls H1 locs hl hR hS)
                  · cases h
                · cases h
              · cases h
          · cases h
        · cases h
      · cases h
    · cases h
  | _ => cases h
end KXT
