/-! ===== RUNS OVER A TYPED STATE, part 15: constants of enums, references compared, ordinals, fields of nest mates, copies, new arrays of references, new objects, handlers ===== -/
theorem kx_rf_va (x : Option Nat) : kx_rf (va_rf x) = some x := by cases x <;> rfl
section KZC
variable {V : kx_V} {G : wT} {ob : Nat → Nat} {ot : Nat → Option kx_E} {L : Nat} {M : kx_M} {pc : Nat} {lv : kx_L} {st : List Value} {w : wS} {Q : kx_Rs → wS → Prop} {X : kx_X}
theorem kz_getsE {j : Nat} {v : Value} (hd : decode M.2.1 pc = .ok (.getstatic j, 3)) (h : ∃ r n d, kx_fl V M.1.cls j = some (r, n, d) ∧ kx_sv V r n d = some v) (kk : kz V G ob ot L M (pc + 3) lv (v :: st) w Q) : kz V G ob ot L M pc lv st w Q := by
  obtain ⟨r, n, d, h1, h2⟩ := h
  intro F hF X hX
  exact ky_gets hd h1 h2 (kk F hF X hX)
theorem kz_acmp_eq {off : Int} {t : Nat} {x y : Option Nat} {A B : Prop} (hd : decode M.2.1 pc = .ok (.if_acmp .eq off, 3)) (ht : kx_tg pc off = some t) (h : if x = y then A else B) (ka : A → kz V G ob ot L M t lv st w Q) (kb : B → kz V G ob ot L M (pc + 3) lv st w Q) : kz V G ob ot L M pc lv (va_rf y :: va_rf x :: st) w Q := by
  by_cases e : x = y
  · rw [if_pos e] at h
    refine kz_s hd (fun X => ?_) (ka h)
    simp only [kx_st1, kx_rf_va, ht, if_pos e, if_pos]
  · rw [if_neg e] at h
    refine kz_s hd (fun X => ?_) (kb h)
    simp only [kx_st1, kx_rf_va, ht, if_neg e, if_pos]
theorem kz_acmp_ne {off : Int} {t : Nat} {x y : Option Nat} {A B : Prop} (hd : decode M.2.1 pc = .ok (.if_acmp .ne off, 3)) (ht : kx_tg pc off = some t) (h : if ¬ x = y then A else B) (ka : A → kz V G ob ot L M t lv st w Q) (kb : B → kz V G ob ot L M (pc + 3) lv st w Q) : kz V G ob ot L M pc lv (va_rf y :: va_rf x :: st) w Q := by
  by_cases e : x = y
  · rw [if_neg (fun q => q e)] at h
    refine kz_s hd (fun X => ?_) (kb h)
    simp only [kx_st1, kx_rf_va, ht, if_pos e, if_pos]
  · rw [if_pos e] at h
    refine kz_s hd (fun X => ?_) (ka h)
    simp only [kx_st1, kx_rf_va, ht, if_neg e, if_pos]
/-- a nest mate's private field -/
def wFn (V : kx_V) (G : wT) (own : String) (j c k x : Nat) : Prop := kx_fl V own j = none ∧ ∃ (q : String × String × String) (hh : String) (Cn : String) (T : u_T) (N : Nat), kx_fn (kx_Ns V) own j = some (q, hh) ∧ (kx_cl V)[c]? = some (Cn, T, N) ∧ kx_fk T N q = some k ∧ k < G.2.2.1 c ∧ G.1 c k = x
theorem kz_gfN {j c o k x : Nat} {v : Value} (hd : decode M.2.1 pc = .ok (.getfield j, 3)) (hf : wFn V G M.1.cls j c k x) (hl : G.2.2.2 c o = true ∨ w_l w ob c o) (hv : G.1 c k = x → w_val G ob w c o k = v) (kk : kz V G ob ot L M (pc + 3) lv (v :: st) w Q) : kz V G ob ot L M pc lv (.ref (w_adr ob c o) :: st) w Q := by
  obtain ⟨h0, q, hh, Cn, T, N, h1, h2, h3, h4, h5⟩ := hf
  intro F hF X hX
  have ha := hX.obj hl
  have hat : (w_fs G ob w c o)[k]? = some v := by rw [w_fs_at h4, hv h5]
  refine ky_step2 hd ?_ ?_ (Nat.zero_add _).symm (Nat.zero_add _).symm (kk F hF X hX)
  · simp only [kx_st1, ha, h0, h2, if_pos]
  · simp only [kx_st2, ha, h1, h2, h3, hat, if_pos]
theorem kz_gfNi {j c o k : Nat} (hd : decode M.2.1 pc = .ok (.getfield j, 3)) (hf : wFn V G M.1.cls j c k 0) (hl : G.2.2.2 c o = true ∨ w_l w ob c o) (kk : kz V G ob ot L M (pc + 3) lv (.int (w_i w c o k) :: st) w Q) : kz V G ob ot L M pc lv (.ref (w_adr ob c o) :: st) w Q := kz_gfN hd hf hl (fun h => by unfold w_val; rw [h]) kk
theorem kz_gfNa {j c o k : Nat} (hd : decode M.2.1 pc = .ok (.getfield j, 3)) (hf : wFn V G M.1.cls j c k 3) (hl : G.2.2.2 c o = true ∨ w_l w ob c o) (kk : kz V G ob ot L M (pc + 3) lv (.ref (w_d w c o k) :: st) w Q) : kz V G ob ot L M pc lv (.ref (w_adr ob c o) :: st) w Q := kz_gfN hd hf hl (fun h => by unfold w_val; rw [h]) kk
/-- arrays are copied -/
def wAc (V : kx_V) (own : String) (j : Nat) : Prop := kx_ml V own j = some arraycopyName ∧ Jvm.Cond.native arraycopyName ∈ kx_Tb V ∧ Jvm.Cond.static arraycopyName ∈ kx_Tb V ∧ Jvm.Cond.initialized "java/lang/System" ∈ kx_Tb V
theorem w_arr_lt {τ c o k : Nat} (h : τ < 3) : w_arr w τ c o k = .inl (τ, w_n w c o k, .inl (w_a w c o k)) := by
  match τ, h with
  | 0, _ => rfl
  | 1, _ => rfl
  | 2, _ => rfl
theorem kz_cpyi {τ j c0 o0 k0 c o k a0 a : Nat} {sp dp n : Int32} {ty : FieldType} (hd : decode M.2.1 pc = .ok (.invokestatic j, 3)) (hj : wAc V M.1.cls j) (h3 : τ < 3) (ht : (kx_tl V)[τ]? = some ty) (hty : refKind ty = false) (h0 : w_own w G ob τ c0 o0 k0) (ha0 : w_aa G ob w c0 o0 k0 = a0) (h1 : w_own w G ob τ c o k) (ha1 : w_aa G ob w c o k = a) (hL : kx_cat st + (nativeFrameWords "java/lang/System" "arraycopy" 5 + 11) ≤ L) {A : Prop} (h : ((¬ sp < 0 ∧ ¬ dp < 0 ∧ ¬ n < 0) ∧ sp.toNatClampNeg + n.toNatClampNeg ≤ w_n w c0 o0 k0 ∧ dp.toNatClampNeg + n.toNatClampNeg ≤ w_n w c o k ∧ ∀ i, i < n.toNatClampNeg → fits ty (.int (w_a w c0 o0 k0 (sp.toNatClampNeg + i))) = true) ∧ A) (kk : A → kz V G ob ot L M (pc + 3) lv st (ws_A w c o k (va_cpy (w_a w c0 o0 k0) (w_a w c o k) sp.toNatClampNeg dp.toNatClampNeg n.toNatClampNeg)) Q) : kz V G ob ot L M pc lv (.int n :: .int dp :: .ref a :: .int sp :: .ref a0 :: st) w Q := by
  subst ha0
  subst ha1
  obtain ⟨⟨⟨e1, e2, e3⟩, e4, e5, e6⟩, hA⟩ := h
  intro F hF X hX
  obtain ⟨j1, j2, j3, j4⟩ := hj
  have g0 := (hX.own h0).2.1
  have g1 := hX.own h1
  have g2 := g1.2.1
  rw [w_arr_lt h3] at g0 g2
  have hs := kk hA F hF _ (hX.setA (w' := ws_A w c o k (va_cpy (w_a w c0 o0 k0) (w_a w c o k) sp.toNatClampNeg dp.toNatClampNeg n.toNatClampNeg)) h1 h3 rfl ⟨rfl, rfl, rfl⟩ (fun c' o' k' hne => w_f4_ne _ _ hne))
  have e : w_a (ws_A w c o k (va_cpy (w_a w c0 o0 k0) (w_a w c o k) sp.toNatClampNeg dp.toNatClampNeg n.toNatClampNeg)) c o k = va_cpy (w_a w c0 o0 k0) (w_a w c o k) sp.toNatClampNeg dp.toNatClampNeg n.toNatClampNeg := w_f4_eq _ _ _ _ _
  rw [e] at hs
  have hall : (List.range n.toNatClampNeg).all (fun i => fits ty (.int (w_a w c0 o0 k0 (sp.toNatClampNeg + i)))) = true := by
    rw [List.all_eq_true]
    intro i hi
    exact e6 i (List.mem_range.mp hi)
  refine ky_step2 hd ?_ ?_ (Nat.zero_add _).symm (Nat.zero_add _).symm hs
  · simp only [kx_st1]
  · simp only [kx_st2, j1, j2, j3, j4, and_self, if_pos]
    rw [if_pos ⟨e1, e2, e3, hX.lo g1.1, by omega, hL⟩]
    simp only [g0, g2, ht]
    rw [if_pos ⟨trivial, hty, e4, e5, hall⟩]
theorem kz_oinit {j a : Nat} (hd : decode M.2.1 pc = .ok (.invokespecial j, 3)) (h : kx_ml V M.1.cls j = some Lib.objectInit ∧ Jvm.Cond.instanceMethod Lib.objectInit ∈ kx_Tb V ∧ Jvm.Cond.code Lib.objectInit ⟨#[0xb1]⟩ 1 none ∈ kx_Tb V) (hL : kx_cat st + 12 ≤ L) (kk : kz V G ob ot L M (pc + 3) lv st w Q) : kz V G ob ot L M pc lv (.ref a :: st) w Q := by
  refine kz_s2 hd (fun X => ?_) (fun F X hF => ?_) kk
  · simp only [kx_st1]
  · simp only [kx_st2]
    rw [if_pos trivial, if_pos ⟨h.1, h.2.1, h.2.2, by omega, hL⟩]
/-- a handler -/
theorem kzx_n {E : String} {h : Nat} {k : Fin 4} (lv' : kx_L) (h1 : kx_hd V M.1.cls pc E (M.2.2.2.2.getD []) = some (some h)) (hd : decode M.2.1 h = .ok (.astore_n k, 1)) (hk : (k : Nat) < M.2.2.1) (hc : kv_sk lv k lv') (hn : kv_nd ((k : Nat) :: lv'.map (·.1)) = true) (hh : kz V G ob ot L M (h + 1) lv' [] w Q) : kzx V G ob ot L M pc lv E w Q := by
  unfold kzx
  rw [h1]
  simp only [kx_hs, hd, if_pos hk]
  refine kz_sub_go ⟨fun i v hv => ?_, ?_⟩ hh
  · obtain ⟨a1, a2, a3⟩ := kv_sk_mem hc _ (kv_lk_mem hv)
    refine kv_lk_filter a1 ?_
    simp only [Bool.and_eq_true, Bool.not_eq_true', beq_eq_false_iff_ne, ne_eq]
    refine ⟨a2, ?_⟩
    rcases a3 with a3 | a3
    · simp [a3]
    · simp [a3]
  · have := kv_nd_ok hn
    exact (List.nodup_cons.mp this).2
theorem kzx_out {E : String} (h1 : kx_hd V M.1.cls pc E (M.2.2.2.2.getD []) = some none) (h : Q (.inr E) w) : kzx V G ob ot L M pc lv E w Q := by
  unfold kzx
  rw [h1]
  exact h
/-- a call by nest -/
def wLn (V : kx_V) (own : String) (j : Nat) (M' : kx_M) (n : Nat) : Prop := kx_ml V own j = none ∧ (∃ hh, kx_mn (kx_Ns V) own j = some (M'.1, hh)) ∧ kx_md V own j M'.1 = some M' ∧ kx_np M'.1 = some n ∧ M'.2.2.2.2 = none
theorem kz_callsN {j n : Nat} {M' : kx_M} {As rest : List Value} (hd : decode M.2.1 pc = .ok (.invokestatic j, 3)) (hk : wLn V M.1.cls j M' n) (hm : wMs V M') (hst : kx_arg n st = some (As, rest)) (hL : 19 + M'.2.2.1 ≤ L) (hfit : (lg_sl As).length ≤ M'.2.2.1) (hcat : kx_cat rest ≤ 8)
    (kk : kz V G ob ot (L - (19 + M'.2.2.1)) M' 0 (lv_args 0 As) [] w (fun r w' => wle w w' → match r with
      | .inl v => kz V G ob ot L M (pc + 3) lv (v.toList ++ rest) w' Q
      | .inr E => kzx V G ob ot L M pc lv E w' Q)) : kz V G ob ot L M pc lv st w Q := by
  obtain ⟨k1, ⟨hh, k2⟩, k3, k4, k5⟩ := hk
  obtain ⟨m1, m2, m3⟩ := hm
  refine kz_inv hd hL (fun X => rfl) (fun F X => ?_) rfl (fun F X hF hX => ?_) kk
  · simp only [kx_st2, k1]
    simp
  · have hf := wM_fit m1 hF hL hfit hcat
    simp only [kx_inv, k1, k2, k3, k4, hst, hf, if_pos, m2, m3, k5, and_self, and_true]
/-- a constructor's call, by nest or not -/
def wLi (V : kx_V) (own : String) (j : Nat) (M' : kx_M) (n : Nat) : Prop := (kx_ml V own j = some M'.1 ∨ (kx_ml V own j = none ∧ ∃ hh, kx_mn (kx_Ns V) own j = some (M'.1, hh))) ∧ kx_md V own j M'.1 = some M' ∧ kx_np M'.1 = some n ∧ M'.2.2.2.2 = none ∧ M'.2.2.2.1 = none ∧ M'.1.name = "<init>" ∧ wMn M' = true ∧ Jvm.Cond.instanceMethod M'.1 ∈ kx_Tb V ∧ Jvm.Cond.initialized M'.1.cls ∈ kx_Tb V
theorem kz_init {j n b : Nat} {M' : kx_M} {As rest : List Value} (hd : decode M.2.1 pc = .ok (.invokespecial j, 3)) (hk : wLi V M.1.cls j M' n) (hst : kx_arg n st = some (As, .ref b :: rest)) (hL : 19 + M'.2.2.1 ≤ L) (hfit : (lg_sl (.ref b :: As)).length ≤ M'.2.2.1) (hcat : kx_cat rest ≤ 8)
    (kk : kz V G ob ot (L - (19 + M'.2.2.1)) M' 0 (lv_args 0 (.ref b :: As)) [] w (fun r w' => wle w w' → match r with
      | .inl v => kz V G ob ot L M (pc + 3) lv (v.toList ++ rest) w' Q
      | .inr E => kzx V G ob ot L M pc lv E w' Q)) : kz V G ob ot L M pc lv st w Q := by
  obtain ⟨k1, k2, k3, k4, k5, k6, m1, m2, m3⟩ := hk
  have hne : M'.1 ≠ Lib.objectInit := by
    intro e
    have h2 := m1
    unfold wMn at h2
    simp only [Bool.and_eq_true, decide_eq_true_eq] at h2
    exact h2.2.2.2.2 (by rw [e]; rfl)
  refine kz_inv hd hL (fun X => ?_) (fun F X => ?_) rfl (fun F X hF hX => ?_) kk
  · simp only [kx_st1]
  · have hs : ¬ (kx_ml V M.1.cls j = some Lib.objectInit) := by
      rcases k1 with k1 | ⟨k1, -⟩
      · rw [k1]
        intro e
        exact hne (Option.some.inj e)
      · rw [k1]
        intro e
        cases e
    simp only [kx_st2, hs, false_and, if_false, ite_self]
    split
    · split <;> rfl
    · rfl
  · have hf := wM_fit m1 hF hL hfit hcat
    rcases k1 with k1 | ⟨k1, hh, k7⟩
    · simp only [kx_inv, k1, k2, k3, hst, hf, if_pos, m2, m3, k4, k5, k6, and_self, and_true]
    · simp only [kx_inv, k1, k7, k2, k3, hst, hf, if_pos, m2, m3, k4, k5, k6, and_self, and_true]
end KZC
section KZO
/-- an enum constant's ordinal -/
def kw_on (i : Nat) : Int32 := (kw_en.getD i ("", "", "", 0)).2.2.2
def zA (E : zE) : Prop := kw_ad E.1.1 E.1.2.1 E.1.2.2.1 E.1.2.2.2.1 E.1.2.2.2.2.1 E.1.2.2.2.2.2.2.2
def zO (E : zE) (C : String) (x : Option Nat) (i : Nat) : Prop := zA E ∧ i < 69 ∧ x = some (E.1.1 i) ∧ (kw_en.getD i ("", "", "", 0)).1 = C
theorem kw_first_at {f : Nat → Nat} {n i : Nat} (hi : i < n) (hf : ∀ j, j < n → f j = f i → j = i) : kw_first f n (f i) = some i := by
  cases h : kw_first f n (f i) with
  | some j =>
    obtain ⟨h1, h2⟩ := kw_first_eq h
    rw [hf j h1 h2]
  | none =>
    unfold kw_first at h
    have h1 := List.find?_eq_none.mp h i (List.mem_range.mpr hi)
    simp at h1
theorem z_oo {E : zE} {C : String} {x : Option Nat} {i : Nat} (h : zO E C x i) : kx_oo (zV E) (E.1.1 i) = some (C, [("java/lang/Enum", "ordinal", "I", .int (kw_on i))]) := by
  obtain ⟨h1, h2, h3, h4⟩ := h
  show kw_oo E.1.1 E.1.2.1 E.1.2.2.1 (E.1.1 i) = _
  have hl : i < kw_en.length := by rw [kw_lens.1]; exact h2
  unfold kw_oo
  rw [kw_first_at h2 (fun j hj e => h1.1 j hj i h2 e)]
  have e : kw_en.getD i ("", "", "", 0) = kw_en[i] := by
    rw [List.getD_eq_getElem?_getD, List.getElem?_eq_getElem hl]
    rfl
  unfold kw_on
  rw [e] at h4 ⊢
  simp only [List.getElem?_eq_getElem hl, h4]
theorem kz_ord {E : zE} {L : Nat} {M : kx_M} {pc : Nat} {lv : kx_L} {st : List Value} {w : wS} {Q : kx_Rs → wS → Prop} {j i : Nat} {C : String} {x : Option Nat} (hd : decode M.2.1 pc = .ok (.invokevirtual j, 3)) (hk : kx_ml (zV E) M.1.cls j = some ⟨C, "ordinal", "()I"⟩) (hm : kx_md (zV E) M.1.cls j ⟨"java/lang/Enum", "ordinal", "()I"⟩ = some kt_M610) (hs : Jvm.Cond.selects C ⟨C, "ordinal", "()I"⟩ ⟨C, "ordinal", "()I"⟩ ∉ kx_Tb (zV E)) (hU : ∀ u ∈ va_wsU M.1.cls j C "java/lang/Enum" ⟨C, "ordinal", "()I"⟩ ⟨"java/lang/Enum", "ordinal", "()I"⟩ [], u ∈ kx_Tb (zV E)) (hL : 20 ≤ L) (hcat : kx_cat st ≤ 8) (ho : zO E C x i) (kk : kzE E L M (pc + 3) lv (.int (kw_on i) :: st) w Q) : kzE E L M pc lv (va_rf x :: st) w Q := by
  have hoo := z_oo ho
  obtain ⟨h1, h2, h3, h4⟩ := ho
  subst h3
  intro F hF X hX
  have hlt : E.1.1 i < kx_lo (zV E) := h1.2.2.2.2.2.2.2.1 i h2
  have hn : X.1 (E.1.1 i) = none := hX.2.2.1 _ hlt
  have hcc : kx_cc (zV E) X (E.1.1 i) = some C := by
    unfold kx_cc
    rw [hn]
    simp only [hoo]
  have hml : kt_M610.2.2.1 = 1 := rfl
  have hfit : kx_fit F L kt_M610 [.ref (E.1.1 i)] st = true := wM_fit (by decide +kernel) (by omega) (by rw [hml]; omega) (by simp [lg_sl, z_cr, kt_M610]) hcat
  have hnp : kx_np ⟨C, "ordinal", "()I"⟩ = some 0 := by
    show (parseMethodDescriptor "()I").map _ = _
    decide +kernel
  have hinv : kx_inv (zV E) M.1.cls F L (.invokevirtual j) 3 (.ref (E.1.1 i) :: st) X = some (kt_M610, [.ref (E.1.1 i)], st) := by
    have harg : kx_arg 0 (.ref (E.1.1 i) :: st) = some ([], .ref (E.1.1 i) :: st) := by
      unfold kx_arg
      simp
    have hUU : ((va_wsU M.1.cls j C "java/lang/Enum" ⟨C, "ordinal", "()I"⟩ ⟨"java/lang/Enum", "ordinal", "()I"⟩ []).all (fun w => decide (w ∈ kx_Tb (zV E)))) = true := by
      rw [List.all_eq_true]
      intro u hu
      exact decide_eq_true (hU u hu)
    simp only [kx_inv, hk, hnp, harg, hcc, if_pos]
    rw [if_neg (fun e => hs e.2)]
    simp only [hm]
    rw [if_pos ⟨rfl, hUU, hfit⟩]
  have hb : ky (zV E) (F - 1) (L - (19 + kt_M610.2.2.1)) kt_M610 0 (lv_args 0 [.ref (E.1.1 i)]) [] X (w_C w) (w_S w) (fun r X' C' S' => match r with
      | .inl v => ky (zV E) F L M (pc + 3) lv (v.toList ++ st) X' C' S' (fun r X' C' S' => ∃ w', wR (zV E) wG E.2.1 E.2.2 w' X' ∧ wle w w' ∧ w_C w' = C' ∧ w_S w' = S' ∧ Q r w')
      | .inr E' => ky_x (zV E) F L M pc lv E' X' C' S' (fun r X' C' S' => ∃ w', wR (zV E) wG E.2.1 E.2.2 w' X' ∧ wle w w' ∧ w_C w' = C' ∧ w_S w' = S' ∧ Q r w')) := by
    refine ky_s (pc' := 1) (lv' := lv_args 0 [.ref (E.1.1 i)]) (st' := [.ref (E.1.1 i)]) (X' := X) (i := .aload_n 0) (len := 1) (by decide +kernel) ?_ ?_
    · rfl
    refine ky_step2 (pc' := 4) (lv' := lv_args 0 [.ref (E.1.1 i)]) (st' := [.int (kw_on i)]) (X' := X) (i := .getfield 7) (len := 3) (by decide +kernel) ?_ ?_ (Nat.zero_add _).symm (Nat.zero_add _).symm ?_
    · simp only [kx_st1, hn, if_pos]
    · have hfl : kx_fl (zV E) kt_M610.1.cls 7 = some ("java/lang/Enum", "ordinal", "I") := by
        show kt_get kt_flA "java/lang/Enum" 7 = _
        decide +kernel
      simp only [kx_st2, hn, hoo, hfl, if_pos]
      simp
    refine ky_end (i := .ireturn) (len := 1) (v := some (.int (kw_on i))) (by decide +kernel) (by simp only [kx_st1]) (by simp only [kx_st2]) (by simp [kx_end, kt_M610, narrow]) ?_
    exact kk F hF X hX
  exact ky_call hd rfl rfl rfl hinv hb
end KZO
section KZN
variable {V : kx_V} {G : wT} {ob : Nat → Nat} {ot : Nat → Option kx_E} {L : Nat} {M : kx_M} {pc : Nat} {lv : kx_L} {st : List Value} {w : wS} {Q : kx_Rs → wS → Prop} {X : kx_X}
theorem w_o_obj {c n : Nat} (a : Nat) : w_o (ws_obj w c n) a = if a = w_z w then some (c, w_z w, 999) else w_o w a := w_u1_at _ _ _ _
/-- a new object -/
theorem wR.newO (h : wR V G ob ot w X) {c n : Nat} (hd : w_dyn c = true) (h99 : c ≠ 99) (har : ∀ k, w_ar G c k = false) : wR V G ob ot (ws_obj w c n) (kx_push X (.inr (c, w_fs G ob (ws_obj w c n) c (w_z w)))) := by
  have hz : X.2 = w_z w := h.1
  have hne : ∀ a q, w_o w a = some q → a ≠ w_z w := fun a q ha => w_z_ne h ha
  have hadr : w_adr ob c (w_z w) = w_z w := by
    unfold w_adr
    rw [hd]
    rfl
  have hat : ∀ q, w_at G ob (ws_obj w c n) q = w_at G ob w q := fun q => w_at_eq (fun _ _ _ => rfl) q
  refine ⟨?_, ?_, fun b hb => ?_, fun b e hb => ?_, fun b p hb => ?_, fun c' o hs => ?_, fun c' o k h1 h2 => ?_, h.2.2.2.2.2.2.2⟩
  · show X.2 + 1 = w_z w + 1
    rw [hz]
  · show kx_lo V ≤ w_z w + 1
    have := h.2.1
    omega
  · show (if b = X.2 then _ else X.1 b) = none
    rw [if_neg (by have := h.2.1; omega)]
    exact h.2.2.1 b hb
  · obtain ⟨h1, h2, h3⟩ := h.2.2.2.1 b e hb
    refine ⟨?_, ?_, ?_⟩
    · show (if b = X.2 then _ else X.1 b) = some e
      rw [if_neg (by omega)]
      exact h1
    · rw [w_o_obj, if_neg (by omega)]
      exact h2
    · show b < w_z w + 1
      omega
  · rw [w_o_obj] at hb
    by_cases e : b = w_z w
    · rw [if_pos e] at hb
      cases hb
      refine ⟨?_, ?_, ?_, ?_⟩
      · rw [e]
        unfold w_at
        rw [if_pos (.inl rfl)]
        exact hadr.symm
      · rw [e]
        exact h.2.1
      · show b < w_z w + 1
        omega
      · show (if b = X.2 then _ else X.1 b) = _
        rw [if_pos (by omega)]
        unfold w_cont
        rw [if_pos rfl]
    · rw [if_neg e] at hb
      obtain ⟨g1, g2, g3, g4⟩ := h.2.2.2.2.1 b p hb
      refine ⟨by rw [hat]; exact g1, g2, by show b < w_z w + 1; omega, ?_⟩
      show (if b = X.2 then _ else X.1 b) = _
      rw [if_neg (by omega), g4]
      congr 1
      unfold w_cont
      by_cases h9 : p.2.2 = 999
      · rw [if_pos h9, if_pos h9]
        have hp : ¬ (p.1 = c ∧ p.2.1 = w_z w) := by
          rintro ⟨e1, e2⟩
          apply e
          rw [g1]
          unfold w_at
          rw [if_pos (.inl h9), e1, e2, hadr]
        rw [w_fs_congr]
        intro k
        unfold w_val
        split
        · refine congrArg Value.int ?_
          show w_i w p.1 p.2.1 k = w_z3 w.1 c (w_z w) 0 p.1 p.2.1 k
          rw [w_z3_at, if_neg hp]
          rfl
        · refine congrArg Value.long ?_
          show w_g w p.1 p.2.1 k = w_z3 w.2.1 c (w_z w) 0 p.1 p.2.1 k
          rw [w_z3_at, if_neg hp]
          rfl
        · refine congrArg va_rf ?_
          show w_p w p.1 p.2.1 k = w_z3 w.2.2.1 c (w_z w) none p.1 p.2.1 k
          rw [w_z3_at, if_neg hp]
          rfl
        all_goals rfl
      · rw [if_neg h9, if_neg h9]
        rfl
  · have h1 := h.2.2.2.2.2.1 c' o hs
    unfold w_l at h1 ⊢
    rw [w_o_obj, if_neg (hne _ _ h1)]
    exact h1
  · have h3 : w_l w ob c' o := by
      unfold w_l at h1 ⊢
      rw [w_o_obj] at h1
      by_cases e : w_adr ob c' o = w_z w
      · rw [if_pos e] at h1
        simp only [Option.some.injEq, Prod.mk.injEq] at h1
        rw [← h1.1, har] at h2
        cases h2
      · rw [if_neg e] at h1
        exact h1
    have h4 := h.2.2.2.2.2.2.1 c' o k h3 h2
    have e : w_ad G ob (ws_obj w c n) c' o k = w_ad G ob w c' o k := w_ad_eq (fun _ _ _ => rfl) c' o k
    rw [e, w_o_obj, if_neg (hne _ _ h4)]
    exact h4
theorem wle_obj (h : wR V G ob ot w X) {c n : Nat} : wle w (ws_obj w c n) := by
  intro a c' o ha
  rw [w_o_obj, if_neg (w_z_ne h ha)]
  exact ha
theorem w_l_obj {c n : Nat} (hd : w_dyn c = true) : w_l (ws_obj w c n) ob c (w_z w) := by
  unfold w_l
  have hadr : w_adr ob c (w_z w) = w_z w := by
    unfold w_adr
    rw [hd]
    rfl
  rw [hadr, w_o_obj, if_pos rfl]
/-- what the tables say of a class of which objects are made -/
def wNw (V : kx_V) (G : wT) (own : String) (j c n : Nat) : Prop := w_dyn c = true ∧ c ≠ 99 ∧ (∀ k, w_ar G c k = false) ∧ ∃ (C : String) (T : u_T), kx_kl V own j = some C ∧ (kx_cl V).findIdx? (fun q => q.1 == C) = some c ∧ (kx_cl V)[c]? = some (C, T, n) ∧ Jvm.Cond.instantiable C n ∈ kx_Tb V ∧ Jvm.Cond.initialized C ∈ kx_Tb V ∧ G.2.2.1 c = n ∧ ∀ k, k < n → (G.1 c k = 0 ∧ (kx_dv T n)[k]? = some (.int 0)) ∨ (G.1 c k = 2 ∧ (kx_dv T n)[k]? = some .null)
theorem kx_dv_len (T : u_T) (n : Nat) : (kx_dv T n).length = n := by
  unfold kx_dv
  rw [List.length_map, List.length_range]
theorem kz_newo {j c n : Nat} (hd : decode M.2.1 pc = .ok (.new j, 3)) (hw : wNw V G M.1.cls j c n) {A : Prop} (h : (1 ≤ w_C w ∧ n ≤ w_S w) ∧ A) (kk : A → kz V G ob ot L M (pc + 3) lv (.ref (w_z w) :: st) (ws_obj w c n) Q) : kz V G ob ot L M pc lv st w Q := by
  obtain ⟨a1, a2, a3, C, T, b1, b2, b3, b4, b5, b6, b7⟩ := hw
  obtain ⟨⟨h1, h2⟩, h⟩ := h
  intro F hF X hX
  have hz : X.2 = w_z w := hX.1
  have hfs : kx_dv T n = w_fs G ob (ws_obj w c n) c (w_z w) := by
    apply List.ext_getElem?
    intro k
    by_cases hk : k < n
    · rw [w_fs_at (by rw [b6]; exact hk)]
      rcases b7 k hk with ⟨e1, e2⟩ | ⟨e1, e2⟩
      · rw [e2]
        unfold w_val
        rw [e1]
        refine congrArg (fun q => some (Value.int q)) ?_
        show (0 : Int32) = w_z3 w.1 c (w_z w) 0 c (w_z w) k
        rw [w_z3_at, if_pos ⟨rfl, rfl⟩]
      · rw [e2]
        unfold w_val
        rw [e1]
        have : w_p (ws_obj w c n) c (w_z w) k = none := by
          show w_z3 w.2.2.1 c (w_z w) none c (w_z w) k = _
          rw [w_z3_at, if_pos ⟨rfl, rfl⟩]
        simp only [this]
        rfl
    · rw [List.getElem?_eq_none (by rw [kx_dv_len]; omega), List.getElem?_eq_none (by rw [w_fs_len, b6]; omega)]
  have g := kk h F hF _ (hX.newO (n := n) a1 a2 a3)
  rw [← hfs] at g
  refine ky_step hd (pc' := pc + 3) (lv' := lv) (st' := .ref X.2 :: st) (X' := kx_push X (.inr (c, kx_dv T n))) (dc := 1) (ds := n) ?_ (C' := w_C w - 1) (S' := w_S w - n) (by omega) (by omega) ?_
  · simp only [kx_st1, b1, b2, b3]
    rw [if_pos trivial, if_pos ⟨trivial, b4, b5⟩]
  · rw [hz]
    exact ky_mono g (fun r X C S ⟨w2, k1, k2, k3, k4, k5⟩ => ⟨w2, k1, wle_tr (wle_obj hX) k2, k3, k4, k5⟩)
/-- an exception is made -/
def wNx (V : kx_V) (G : wT) (M : kx_M) (pc j c : Nat) : Prop := w_dyn c = true ∧ c ≠ 99 ∧ (∀ k, w_ar G c k = false) ∧ G.2.2.1 c = 0 ∧ ∃ (C : String) (T : u_T) (ic : Nat), kx_kl V M.1.cls j = some C ∧ kx_xn C = some ["java/lang/RuntimeException", "java/lang/Exception"] ∧ decode M.2.1 (pc + 3) = .ok (.dup, 1) ∧ decode M.2.1 (pc + 4) = .ok (.invokespecial ic, 3) ∧ (kx_cl V).findIdx? (fun q => q.1 == C) = some c ∧ (kx_cl V)[c]? = some (C, T, 0) ∧ Jvm.Cond.instantiable C 0 ∉ kx_Tb V ∧ Bundle.fit C = true ∧ (["java/lang/RuntimeException", "java/lang/Exception"].all (fun n => Bundle.fit n)) = true ∧ Jvm.Cond.initialized C ∈ kx_Tb V ∧ ((vx_at0 M.1.cls ic C ["java/lang/RuntimeException", "java/lang/Exception"]).all (fun w => decide (w ∈ kx_Tb V) || (decide (w ∈ kx_Ns V) && (match w with
              | .castable .. => true
              | .declares .. => true
              | _ => false)))) = true ∧ ((Jvm.Cond.classLink M.1.cls j C :: Jvm.Cond.initialized C :: vx_at0 M.1.cls ic C ["java/lang/RuntimeException", "java/lang/Exception"]).all vx_ot) = true
theorem kz_newx {j c : Nat} (hd : decode M.2.1 pc = .ok (.new j, 3)) (hw : wNx V G M pc j c) (hL : 100 ≤ L) (hcat : kx_cat st ≤ 8) {A : Prop} (h : (1 ≤ w_C w ∧ 6 ≤ w_S w) ∧ A) (kk : A → kz V G ob ot L M (pc + 7) lv (.ref (w_z w) :: st) (ws_obj w c 6) Q) : kz V G ob ot L M pc lv st w Q := by
  obtain ⟨a1, a2, a3, a4, C, T, ic, b1, b2, b3, b4, b5, b6, b7, b8, b9, b10, b11, b12⟩ := hw
  obtain ⟨⟨h1, h2⟩, h⟩ := h
  intro F hF X hX
  have hz : X.2 = w_z w := hX.1
  have hfs : w_fs G ob (ws_obj w c 6) c (w_z w) = [] := by
    unfold w_fs
    rw [a4]
    rfl
  have g := kk h F hF _ (hX.newO (n := 6) a1 a2 a3)
  rw [hfs] at g
  refine ky_step2 hd (pc' := pc + 7) (lv' := lv) (st' := .ref X.2 :: st) (X' := kx_push X (.inr (c, []))) (dc := 1) (ds := 6) ?_ ?_ (C' := w_C w - 1) (S' := w_S w - 6) (by omega) (by omega) ?_
  · simp only [kx_st1, b1, b5, b6]
    rw [if_pos trivial, if_neg (fun e => b7 e.2.1)]
  · simp only [kx_st2, b1, b2, b3, b4, b5, b6]
    rw [if_pos trivial, if_pos ⟨trivial, trivial, b8, b9, b10, b11, b12, by simp only [List.length_cons, List.length_nil]; omega, by simp only [List.length_cons, List.length_nil]; omega⟩]
  · rw [hz]
    exact ky_mono g (fun r X C S ⟨w2, k1, k2, k3, k4, k5⟩ => ⟨w2, k1, wle_tr (wle_obj hX) k2, k3, k4, k5⟩)
/-- a new array of references -/
theorem wR.newR (h : wR V G ob ot w X) {τ n : Nat} : wR V G ob ot (ws_new w (τ + 4) n) (kx_push X (.inl (τ + 4, n, .inr (.inr (.inr (.inr (fun _ => none))))))) := by
  have hz : X.2 = w_z w := h.1
  have hne : ∀ a q, w_o w a = some q → a ≠ w_z w := fun a q ha => w_z_ne h ha
  refine ⟨?_, ?_, fun b hb => ?_, fun b e hb => ?_, fun b p hb => ?_, fun c o hs => ?_, fun c o k h1 h2 => ?_, h.2.2.2.2.2.2.2⟩
  · show X.2 + 1 = w_z w + 1
    rw [hz]
  · show kx_lo V ≤ w_z w + 1
    have := h.2.1
    omega
  · show (if b = X.2 then _ else X.1 b) = none
    rw [if_neg (by have := h.2.1; omega)]
    exact h.2.2.1 b hb
  · obtain ⟨h1, h2, h3⟩ := h.2.2.2.1 b e hb
    refine ⟨?_, ?_, ?_⟩
    · show (if b = X.2 then _ else X.1 b) = some e
      rw [if_neg (by omega)]
      exact h1
    · rw [w_o_new, if_neg (by omega)]
      exact h2
    · show b < w_z w + 1
      omega
  · rw [w_o_new] at hb
    by_cases e : b = w_z w
    · rw [if_pos e] at hb
      cases hb
      refine ⟨?_, ?_, ?_, ?_⟩
      · rw [w_at_new, e]
        rfl
      · rw [e]
        exact h.2.1
      · show b < w_z w + 1
        omega
      · show (if b = X.2 then _ else X.1 b) = _
        rw [if_pos (by omega)]
        unfold w_cont
        rw [if_neg (show ¬ (0 : Nat) = 999 by decide), if_pos rfl]
        have e1 : w_t (ws_new w (τ + 4) n) (w_z w) = τ + 4 := by
          show w_u1 _ _ _ _ = _
          rw [w_u1_at, if_pos rfl]
        have e2 : w_n (ws_new w (τ + 4) n) 99 (w_z w) 0 = n := w_u3_eq _ _ _ _ _
        have e3 : w_r (ws_new w (τ + 4) n) 99 (w_z w) 0 = fun _ => none := w_f4_eq _ _ _ _ _
        show some _ = some (w_arr (ws_new w (τ + 4) n) (w_t (ws_new w (τ + 4) n) (w_z w)) 99 (w_z w) 0)
        rw [e1]
        unfold w_arr
        rw [e2, e3]
        rfl
    · rw [if_neg e] at hb
      obtain ⟨g1, g2, g3, g4⟩ := h.2.2.2.2.1 b p hb
      refine ⟨by rw [w_at_new]; exact g1, g2, by show b < w_z w + 1; omega, ?_⟩
      show (if b = X.2 then _ else X.1 b) = _
      rw [if_neg (by omega), g4]
      congr 1
      unfold w_cont
      by_cases h9 : p.2.2 = 999
      · rw [if_pos h9, if_pos h9]
        rfl
      · rw [if_neg h9, if_neg h9]
        have hp : (p.1, p.2.1, p.2.2) ≠ (99, w_z w, 0) := by
          intro e2
          simp only [Prod.mk.injEq] at e2
          obtain ⟨e3, e4, e5⟩ := e2
          have : b = w_z w := by
            rw [g1]
            unfold w_at
            rw [if_pos (Or.inr e3), e3, e4]
            rfl
          exact e this
        have et : (if p.1 = 99 then w_t (ws_new w (τ + 4) n) p.2.1 else G.2.1 p.1 p.2.2) = (if p.1 = 99 then w_t w p.2.1 else G.2.1 p.1 p.2.2) := by
          by_cases e99 : p.1 = 99
          · rw [if_pos e99, if_pos e99]
            show w_u1 _ _ _ _ = _
            rw [w_u1_at, if_neg]
            intro e4
            have : b = w_z w := by
              rw [g1]
              unfold w_at
              rw [if_pos (Or.inr e99), e99, e4]
              rfl
            exact e this
          · rw [if_neg e99, if_neg e99]
        rw [et]
        unfold w_arr
        have e1 : w_n (ws_new w (τ + 4) n) p.1 p.2.1 p.2.2 = w_n w p.1 p.2.1 p.2.2 := w_u3_ne _ _ hp
        have e2 : w_a (ws_new w (τ + 4) n) p.1 p.2.1 p.2.2 = w_a w p.1 p.2.1 p.2.2 := w_f4_ne _ _ hp
        have e3 : w_b (ws_new w (τ + 4) n) p.1 p.2.1 p.2.2 = w_b w p.1 p.2.1 p.2.2 := w_f4_ne _ _ hp
        have e4 : w_r (ws_new w (τ + 4) n) p.1 p.2.1 p.2.2 = w_r w p.1 p.2.1 p.2.2 := w_f4_ne _ _ hp
        rw [e1, e2, e3, e4]
  · have h1 := h.2.2.2.2.2.1 c o hs
    unfold w_l at h1 ⊢
    rw [w_o_new, if_neg (hne _ _ h1)]
    exact h1
  · have h3 : w_l w ob c o := by
      unfold w_l at h1 ⊢
      rw [w_o_new] at h1
      by_cases e : w_adr ob c o = w_z w
      · rw [if_pos e] at h1
        simp at h1
      · rw [if_neg e] at h1
        exact h1
    have h4 := h.2.2.2.2.2.2.1 c o k h3 h2
    have e : w_ad G ob (ws_new w (τ + 4) n) c o k = w_ad G ob w c o k := w_ad_eq (fun _ _ _ => rfl) c o k
    rw [e, w_o_new, if_neg (hne _ _ h4)]
    exact h4
theorem kz_newr {j τ : Nat} {n : Int32} {C : String} (hd : decode M.2.1 pc = .ok (.anewarray j, 3)) (hk : kx_kl V M.1.cls j = some C) (ht : (kx_tl V).findIdx? (fun y => y == FieldType.object C) = some (τ + 4)) (ht2 : (kx_tl V)[τ + 4]? = some (.object C)) (hc : Jvm.Cond.arrayOver (.object C) ∈ kx_Ns V) {A : Prop} (h : (¬ n < 0 ∧ n.toNatClampNeg * 4 ≤ 536870912 ∧ 1 ≤ w_C w ∧ n.toNatClampNeg ≤ w_S w) ∧ A) (kk : A → kz V G ob ot L M (pc + 3) lv (.ref (w_z w) :: st) (ws_new w (τ + 4) n.toNatClampNeg) Q) : kz V G ob ot L M pc lv (.int n :: st) w Q := by
  obtain ⟨⟨h1, h2, h3, h4⟩, h⟩ := h
  intro F hF X hX
  have g := kk h F hF _ (hX.newR (τ := τ) (n := n.toNatClampNeg))
  have hz : X.2 = w_z w := hX.1
  refine ky_step hd (pc' := pc + 3) (lv' := lv) (st' := .ref X.2 :: st) (X' := kx_push X (.inl (τ + 4, n.toNatClampNeg, .inr (.inr (.inr (.inr (fun _ => none))))))) (dc := 1) (ds := n.toNatClampNeg) ?_ (C' := w_C w - 1) (S' := w_S w - n.toNatClampNeg) (by omega) (by omega) ?_
  · simp only [kx_st1, hk]
    rw [if_pos trivial, if_pos ⟨h1, h2⟩]
    simp only [ht]
    rw [if_pos ⟨ht2, hc⟩]
  · rw [hz]
    exact ky_mono g (fun r X C S ⟨w2, k1, k2, k3, k4, k5⟩ => ⟨w2, k1, wle_tr (wle_new hX) k2, k3, k4, k5⟩)
/-- references in an array change -/
theorem wR.setRw (h : wR V G ob ot w X) {τ c o k : Nat} (ho : w_own w G ob (τ + 4) c o k) (g : Nat → Option Nat) : wR V G ob ot (ws_R w c o k g) (kx_set X (w_aa G ob w c o k) (.inl (τ + 4, w_n w c o k, .inr (.inr (.inr (.inr g)))))) := by
  obtain ⟨g1, g2, g3⟩ := h.own ho
  have hne : ∀ c' o' k', (c', o', k') ≠ (c, o, k) → w_r (ws_R w c o k g) c' o' k' = w_r w c' o' k' := fun c' o' k' hne => w_f4_ne _ _ hne
  have h1 := h.set (w' := ws_R w c o k g) rfl (fun _ => rfl) (fun _ _ _ => rfl) g1 (by
    intro q hq
    unfold w_cont
    by_cases h9 : q.2.2 = 999
    · rw [if_pos h9, if_pos h9, w_fs_congr]
      intro j
      unfold w_val
      split <;> rfl
    · rw [if_neg h9, if_neg h9]
      unfold w_arr
      rw [hne q.1 q.2.1 q.2.2 hq]
      rfl)
  have e : w_cont G ob (ws_R w c o k g) (c, o, k) = .inl (τ + 4, w_n w c o k, .inr (.inr (.inr (.inr g)))) := by
    unfold w_cont
    rw [if_neg g3]
    have e9 : (if c = 99 then w_t (ws_R w c o k g) o else G.2.1 c k) = τ + 4 := by
      rcases ho with ⟨rfl, rfl, q1, q2⟩ | ⟨q1, q2, q3⟩
      · rw [if_pos rfl]
        exact q2
      · rw [if_neg (h.2.2.2.2.2.2.2 c k q2).2, q3]
    rw [show (if (c, o, k).1 = 99 then w_t (ws_R w c o k g) (c, o, k).2.1 else G.2.1 (c, o, k).1 (c, o, k).2.2) = τ + 4 from e9]
    have e10 : w_r (ws_R w c o k g) c o k = g := w_f4_eq _ _ _ _ _
    show w_arr (ws_R w c o k g) (τ + 4) c o k = _
    unfold w_arr
    rw [e10]
    rfl
  rw [e] at h1
  exact h1
theorem kz_cpyr {τ j c0 o0 k0 c o k a0 a ci : Nat} {sp dp n : Int32} {C1 : String} {q : vw_C} (hd : decode M.2.1 pc = .ok (.invokestatic j, 3)) (hj : wAc V M.1.cls j) (ht : (kx_tl V)[τ + 4]? = some (.object C1)) (hci : (kx_cl V).findIdx? (fun q => q.1 == C1) = some ci) (hcq : (kx_cl V)[ci]? = some q) (hq : q.1 = C1) (hdy : w_dyn ci = true) (h0 : w_own w G ob (τ + 4) c0 o0 k0) (ha0 : w_aa G ob w c0 o0 k0 = a0) (h1 : w_own w G ob (τ + 4) c o k) (ha1 : w_aa G ob w c o k = a) (hL : kx_cat st + (nativeFrameWords "java/lang/System" "arraycopy" 5 + 11) ≤ L) {A : Prop} (h : ((¬ sp < 0 ∧ ¬ dp < 0 ∧ ¬ n < 0) ∧ sp.toNatClampNeg + n.toNatClampNeg ≤ w_n w c0 o0 k0 ∧ dp.toNatClampNeg + n.toNatClampNeg ≤ w_n w c o k ∧ ∀ i, i < n.toNatClampNeg → ∀ y, w_r w c0 o0 k0 (sp.toNatClampNeg + i) = some y → w_l w ob ci y) ∧ A) (kk : A → kz V G ob ot L M (pc + 3) lv st (ws_R w c o k (va_cpy (w_r w c0 o0 k0) (w_r w c o k) sp.toNatClampNeg dp.toNatClampNeg n.toNatClampNeg)) Q) : kz V G ob ot L M pc lv (.int n :: .int dp :: .ref a :: .int sp :: .ref a0 :: st) w Q := by
  subst ha0
  subst ha1
  obtain ⟨⟨⟨e1, e2, e3⟩, e4, e5, e6⟩, hA⟩ := h
  intro F hF X hX
  obtain ⟨j1, j2, j3, j4⟩ := hj
  have g0 := (hX.own h0).2.1
  have g1 := hX.own h1
  have g2 := g1.2.1
  have hs := kk hA F hF _ (hX.setRw h1 _)
  have hall : (List.range n.toNatClampNeg).all (fun i => match w_r w c0 o0 k0 (sp.toNatClampNeg + i) with
      | none => true
      | some y => match X.1 y with
        | some (.inr (c2, _)) => c2 == ci
        | _ => false) = true := by
    rw [List.all_eq_true]
    intro i hi
    cases hy : w_r w c0 o0 k0 (sp.toNatClampNeg + i) with
    | none => rfl
    | some y =>
      have hl := e6 i (List.mem_range.mp hi) y hy
      have := hX.obj (.inr hl)
      have hadr : w_adr ob ci y = y := by
        unfold w_adr
        rw [hdy]
        rfl
      rw [hadr] at this
      simp only [this, beq_self_eq_true]
  have g0' : X.1 (w_aa G ob w c0 o0 k0) = some (.inl (τ + 4, w_n w c0 o0 k0, .inr (.inr (.inr (.inr (w_r w c0 o0 k0)))))) := g0
  have g2' : X.1 (w_aa G ob w c o k) = some (.inl (τ + 4, w_n w c o k, .inr (.inr (.inr (.inr (w_r w c o k)))))) := g2
  refine ky_step2 hd ?_ ?_ (Nat.zero_add _).symm (Nat.zero_add _).symm hs
  · simp only [kx_st1]
  · simp only [kx_st2, j1, j2, j3, j4, and_self, if_pos]
    rw [if_pos ⟨e1, e2, e3, hX.lo g1.1, by omega, hL⟩]
    simp only [g0', g2', ht, hci, hcq]
    rw [if_pos ⟨hq, e4, e5, hall⟩]
/-- an object comes to a place of an array -/
theorem kz_aasto {i : Int32} {v τ c o k ci : Nat} {C1 : String} {q : vw_C} (hd : decode M.2.1 pc = .ok (.aastore, 1)) (ho : w_own w G ob (τ + 4) c o k) {a : Nat} (ha : w_aa G ob w c o k = a) (hcq : (kx_cl V)[ci]? = some q) (ht : (kx_tl V)[τ + 4]? = some (.object q.1)) (hdy : w_dyn ci = true) (hl : w_l w ob ci v) {A : Prop} (h : kx_inb i (w_n w c o k) = true ∧ A) (kk : A → kz V G ob ot L M (pc + 1) lv st (ws_r w c o k i.toNatClampNeg (some v)) Q) : kz V G ob ot L M pc lv (.ref v :: .int i :: .ref a :: st) w Q := by
  subst ha
  intro F hF X hX
  have g := hX.own ho
  have hv := hX.obj (.inr hl)
  have hadr : w_adr ob ci v = v := by
    unfold w_adr
    rw [hdy]
    rfl
  rw [hadr] at hv
  have hs := kk h.2 F hF _ (hX.setR ho i.toNatClampNeg (some v))
  have e : w_r (ws_r w c o k i.toNatClampNeg (some v)) c o k = va_up (w_r w c o k) i.toNatClampNeg (some v) := by
    show w_u4 w.2.2.2.2.2.1 c o k i.toNatClampNeg (some v) c o k = _
    rw [w_u4_eq]
    funext q
    unfold va_up
    rfl
  rw [e] at hs
  exact ky_aast hd g.2.1 ⟨hX.lo g.1, h.1⟩ hv hcq ht hs
end KZN
/-- an enum constant comes to a place of an array -/
theorem kz_aastE {E : zE} {L : Nat} {M : kx_M} {pc : Nat} {lv : kx_L} {st : List Value} {w : wS} {Q : kx_Rs → wS → Prop} {i : Int32} {x : Option Nat} {i0 c o k : Nat} (hd : decode M.2.1 pc = .ok (.aastore, 1)) (ho : w_own w wG E.2.1 4 c o k) {a : Nat} (ha : w_aa wG E.2.1 w c o k = a) (hO : zO E "MeetingHouse$Sort" x i0) {A : Prop} (h : kx_inb i (w_n w c o k) = true ∧ A) (kk : A → kzE E L M (pc + 1) lv st (ws_r w c o k i.toNatClampNeg (some (E.1.1 i0))) Q) : kzE E L M pc lv (va_rf x :: .int i :: .ref a :: st) w Q := by
  have hoo := z_oo hO
  obtain ⟨h1, h2, h3, h4⟩ := hO
  subst h3
  subst ha
  intro F hF X hX
  have hlt : E.1.1 i0 < kx_lo (zV E) := h1.2.2.2.2.2.2.2.1 i0 h2
  have hn : X.1 (E.1.1 i0) = none := hX.2.2.1 _ hlt
  have g := hX.own (τ := 4) ho
  have hs := kk h.2 F hF _ (hX.setR (τ := 0) ho i.toNatClampNeg (some (E.1.1 i0)))
  have e : w_r (ws_r w c o k i.toNatClampNeg (some (E.1.1 i0))) c o k = va_up (w_r w c o k) i.toNatClampNeg (some (E.1.1 i0)) := by
    show w_u4 w.2.2.2.2.2.1 c o k i.toNatClampNeg (some (E.1.1 i0)) c o k = _
    rw [w_u4_eq]
    funext q
    unfold va_up
    rfl
  rw [e] at hs
  have g2 : X.1 (w_aa wG E.2.1 w c o k) = some (.inl (4, w_n w c o k, .inr (.inr (.inr (.inr (w_r w c o k)))))) := g.2.1
  refine ky_step2 hd ?_ ?_ (Nat.zero_add _).symm (Nat.zero_add _).symm hs
  · show kx_st1 (zV E) _ _ _ .aastore 1 pc lv (.ref (E.1.1 i0) :: .int i :: .ref (w_aa wG E.2.1 w c o k) :: st) X = none
    simp only [kx_st1, g2, hn, if_pos, ite_self]
  · show kx_st2 (zV E) F L M .aastore 1 pc lv (.ref (E.1.1 i0) :: .int i :: .ref (w_aa wG E.2.1 w c o k) :: st) X = _
    simp only [kx_st2, g2, hoo, if_pos]
    rw [if_pos ⟨hX.lo g.1, h.1, rfl⟩]
theorem w_ar_no {c : Nat} (h : ((wG_f.getD c []).all (fun x => Nat.ble x 2)) = true) (k : Nat) : w_ar wG c k = false := by
  have h2 : wG.1 c k ≤ 2 := by
    show (wG_f.getD c []).getD k 0 ≤ 2
    rw [List.getD_eq_getElem?_getD]
    cases e : (wG_f.getD c [])[k]? with
    | none => exact Nat.zero_le _
    | some v => exact Nat.le_of_ble_eq_true (List.all_eq_true.mp h v (List.mem_of_getElem? e))
  unfold w_ar w_fa
  cases h3 : Nat.beq (wG.1 c k) 3 with
  | true =>
    have := w_beq.mp h3
    omega
  | false =>
    cases h4 : Nat.beq (wG.1 c k) (1004 + 256 * c + k) with
    | true =>
      have := w_beq.mp h4
      omega
    | false => rfl
section KZX
variable {V : kx_V} {G : wT} {ob : Nat → Nat} {ot : Nat → Option kx_E} {L : Nat} {M : kx_M} {pc : Nat} {lv : kx_L} {st : List Value} {w : wS} {Q : kx_Rs → wS → Prop} {X : kx_X}
theorem kzx_w {E : String} {h k : Nat} (lv' : kx_L) (h1 : kx_hd V M.1.cls pc E (M.2.2.2.2.getD []) = some (some h)) (hd : decode M.2.1 h = .ok (.astore k, 2)) (hk : k < M.2.2.1) (hc : kv_sk lv k lv') (hn : kv_nd (k :: lv'.map (·.1)) = true) (hh : kz V G ob ot L M (h + 2) lv' [] w Q) : kzx V G ob ot L M pc lv E w Q := by
  unfold kzx
  rw [h1]
  simp only [kx_hs, hd, if_pos hk]
  refine kz_sub_go ⟨fun i v hv => ?_, ?_⟩ hh
  · obtain ⟨a1, a2, a3⟩ := kv_sk_mem hc _ (kv_lk_mem hv)
    refine kv_lk_filter a1 ?_
    simp only [Bool.and_eq_true, Bool.not_eq_true', beq_eq_false_iff_ne, ne_eq]
    refine ⟨a2, ?_⟩
    rcases a3 with a3 | a3
    · simp [a3]
    · simp [a3]
  · have := kv_nd_ok hn
    exact (List.nodup_cons.mp this).2
theorem kz_ldcSE {j q : Nat} (hd : decode M.2.1 pc = .ok (.ldc j, 2)) (h : kx_ci V M.1.cls j = none ∧ kx_rv V M.1.cls j = some q) (kk : kz V G ob ot L M (pc + 2) lv (.ref q :: st) w Q) : kz V G ob ot L M pc lv st w Q := fun F hF X hX => ky_ldcS hd h.1 h.2 (kk F hF X hX)
end KZX
theorem kw_sv_en {adE : Nat → Nat} {zr : Nat → Value} {r n d : String} {i : Nat} (h : kw_en.findIdx? (fun q => decide (q.1 = r ∧ q.2.1 = n ∧ q.2.2.1 = d)) = some i) : kw_sv adE zr r n d = some (.ref (adE i)) := by
  unfold kw_sv
  rw [h]
theorem kw_rv_at {adK : Nat → Nat} {own : String} {j i : Nat} (h : kw_st.findIdx? (fun q => decide (q.1 = own ∧ q.2.1 = j)) = some i) : kw_rv adK own j = some (adK i) := by
  unfold kw_rv
  rw [h]
  rfl
section KZY
variable {V : kx_V} {G : wT} {ob : Nat → Nat} {ot : Nat → Option kx_E} {L : Nat} {M : kx_M} {pc : Nat} {lv : kx_L} {st : List Value} {w : wS} {Q : kx_Rs → wS → Prop} {X : kx_X}
theorem kz_cN0 {j n : Nat} {M' : kx_M} {As rest : List Value} {f : wS → Prop} {g : String → wS → Prop} (hd : decode M.2.1 pc = .ok (.invokestatic j, 3)) (hk : wLn V M.1.cls j M' n) (hm : wMs V M') (hst : kx_arg n st = some (As, rest)) (hL : 19 + M'.2.2.1 ≤ L) (hfit : (lg_sl As).length ≤ M'.2.2.1) (hcat : kx_cat rest ≤ 8) (h : kz V G ob ot (L - (19 + M'.2.2.1)) M' 0 (lv_args 0 As) [] w (wk0 f g)) (hf : ∀ w', wle w w' → f w' → kz V G ob ot L M (pc + 3) lv rest w' Q) (hg : ∀ E w', wle w w' → g E w' → kzx V G ob ot L M pc lv E w' Q) : kz V G ob ot L M pc lv st w Q := by
  refine kz_callsN hd hk hm hst hL hfit hcat (kz_mono h (fun r w' hle hq _ => ?_))
  cases r with
  | inr E => exact hg E w' hle hq
  | inl v =>
    cases v with
    | none => exact hf w' hle hq
    | some v => exact hq.elim
theorem kz_cN1 {j n : Nat} {M' : kx_M} {As rest : List Value} {f : Int32 → wS → Prop} {g : String → wS → Prop} (hd : decode M.2.1 pc = .ok (.invokestatic j, 3)) (hk : wLn V M.1.cls j M' n) (hm : wMs V M') (hst : kx_arg n st = some (As, rest)) (hL : 19 + M'.2.2.1 ≤ L) (hfit : (lg_sl As).length ≤ M'.2.2.1) (hcat : kx_cat rest ≤ 8) (h : kz V G ob ot (L - (19 + M'.2.2.1)) M' 0 (lv_args 0 As) [] w (wk1 f g)) (hf : ∀ v w', wle w w' → f v w' → kz V G ob ot L M (pc + 3) lv (.int v :: rest) w' Q) (hg : ∀ E w', wle w w' → g E w' → kzx V G ob ot L M pc lv E w' Q) : kz V G ob ot L M pc lv st w Q := by
  refine kz_callsN hd hk hm hst hL hfit hcat (kz_mono h (fun r w' hle hq _ => ?_))
  cases r with
  | inr E => exact hg E w' hle hq
  | inl v =>
    cases v with
    | none => exact hq.elim
    | some v =>
      cases v with
      | int v => exact hf v w' hle hq
      | _ => exact hq.elim
theorem kz_cNl {j n : Nat} {M' : kx_M} {As rest : List Value} {f : Int64 → wS → Prop} {g : String → wS → Prop} (hd : decode M.2.1 pc = .ok (.invokestatic j, 3)) (hk : wLn V M.1.cls j M' n) (hm : wMs V M') (hst : kx_arg n st = some (As, rest)) (hL : 19 + M'.2.2.1 ≤ L) (hfit : (lg_sl As).length ≤ M'.2.2.1) (hcat : kx_cat rest ≤ 8) (h : kz V G ob ot (L - (19 + M'.2.2.1)) M' 0 (lv_args 0 As) [] w (wkl f g)) (hf : ∀ v w', wle w w' → f v w' → kz V G ob ot L M (pc + 3) lv (.long v :: rest) w' Q) (hg : ∀ E w', wle w w' → g E w' → kzx V G ob ot L M pc lv E w' Q) : kz V G ob ot L M pc lv st w Q := by
  refine kz_callsN hd hk hm hst hL hfit hcat (kz_mono h (fun r w' hle hq _ => ?_))
  cases r with
  | inr E => exact hg E w' hle hq
  | inl v =>
    cases v with
    | none => exact hq.elim
    | some v =>
      cases v with
      | long v => exact hf v w' hle hq
      | _ => exact hq.elim
theorem kz_cNr {j n : Nat} {M' : kx_M} {As rest : List Value} {f : Option Nat → wS → Prop} {g : String → wS → Prop} (hd : decode M.2.1 pc = .ok (.invokestatic j, 3)) (hk : wLn V M.1.cls j M' n) (hm : wMs V M') (hst : kx_arg n st = some (As, rest)) (hL : 19 + M'.2.2.1 ≤ L) (hfit : (lg_sl As).length ≤ M'.2.2.1) (hcat : kx_cat rest ≤ 8) (h : kz V G ob ot (L - (19 + M'.2.2.1)) M' 0 (lv_args 0 As) [] w (wkr f g)) (hf : ∀ v w', wle w w' → f v w' → kz V G ob ot L M (pc + 3) lv (va_rf v :: rest) w' Q) (hg : ∀ E w', wle w w' → g E w' → kzx V G ob ot L M pc lv E w' Q) : kz V G ob ot L M pc lv st w Q := by
  refine kz_callsN hd hk hm hst hL hfit hcat (kz_mono h (fun r w' hle hq _ => ?_))
  cases r with
  | inr E => exact hg E w' hle hq
  | inl v =>
    cases v with
    | none => exact hq.elim
    | some v =>
      cases v with
      | null => exact hf none w' hle hq
      | ref a => exact hf (some a) w' hle hq
      | _ => exact hq.elim
theorem kz_ci0 {j n b : Nat} {M' : kx_M} {As rest : List Value} {f : wS → Prop} {g : String → wS → Prop} (hd : decode M.2.1 pc = .ok (.invokespecial j, 3)) (hk : wLi V M.1.cls j M' n) (hst : kx_arg n st = some (As, .ref b :: rest)) (hL : 19 + M'.2.2.1 ≤ L) (hfit : (lg_sl (.ref b :: As)).length ≤ M'.2.2.1) (hcat : kx_cat rest ≤ 8) (h : kz V G ob ot (L - (19 + M'.2.2.1)) M' 0 (lv_args 0 (.ref b :: As)) [] w (wk0 f g)) (hf : ∀ w', wle w w' → f w' → kz V G ob ot L M (pc + 3) lv rest w' Q) (hg : ∀ E w', wle w w' → g E w' → kzx V G ob ot L M pc lv E w' Q) : kz V G ob ot L M pc lv st w Q := by
  refine kz_init hd hk hst hL hfit hcat (kz_mono h (fun r w' hle hq _ => ?_))
  cases r with
  | inr E => exact hg E w' hle hq
  | inl v =>
    cases v with
    | none => exact hf w' hle hq
    | some v => exact hq.elim
theorem kz_nz3 {x : Option Nat} {a : Nat} {v1 v2 v3 : Value} (hx : x = some a) (k : kz V G ob ot L M pc lv (v1 :: v2 :: v3 :: .ref a :: st) w Q) : kz V G ob ot L M pc lv (v1 :: v2 :: v3 :: va_rf x :: st) w Q := by
  subst hx
  exact k
theorem kz_nz4 {x : Option Nat} {a : Nat} {v1 v2 v3 v4 : Value} (hx : x = some a) (k : kz V G ob ot L M pc lv (v1 :: v2 :: v3 :: v4 :: .ref a :: st) w Q) : kz V G ob ot L M pc lv (v1 :: v2 :: v3 :: v4 :: va_rf x :: st) w Q := by
  subst hx
  exact k
theorem kz_nz5 {x : Option Nat} {a : Nat} {v1 v2 v3 v4 v5 : Value} (hx : x = some a) (k : kz V G ob ot L M pc lv (v1 :: v2 :: v3 :: v4 :: v5 :: .ref a :: st) w Q) : kz V G ob ot L M pc lv (v1 :: v2 :: v3 :: v4 :: v5 :: va_rf x :: st) w Q := by
  subst hx
  exact k
theorem kz_nz6 {x : Option Nat} {a : Nat} {v1 v2 v3 v4 v5 v6 : Value} (hx : x = some a) (k : kz V G ob ot L M pc lv (v1 :: v2 :: v3 :: v4 :: v5 :: v6 :: .ref a :: st) w Q) : kz V G ob ot L M pc lv (v1 :: v2 :: v3 :: v4 :: v5 :: v6 :: va_rf x :: st) w Q := by
  subst hx
  exact k
theorem kz_nz7 {x : Option Nat} {a : Nat} {v1 v2 v3 v4 v5 v6 v7 : Value} (hx : x = some a) (k : kz V G ob ot L M pc lv (v1 :: v2 :: v3 :: v4 :: v5 :: v6 :: v7 :: .ref a :: st) w Q) : kz V G ob ot L M pc lv (v1 :: v2 :: v3 :: v4 :: v5 :: v6 :: v7 :: va_rf x :: st) w Q := by
  subst hx
  exact k
theorem kz_nz8 {x : Option Nat} {a : Nat} {v1 v2 v3 v4 v5 v6 v7 v8 : Value} (hx : x = some a) (k : kz V G ob ot L M pc lv (v1 :: v2 :: v3 :: v4 :: v5 :: v6 :: v7 :: v8 :: .ref a :: st) w Q) : kz V G ob ot L M pc lv (v1 :: v2 :: v3 :: v4 :: v5 :: v6 :: v7 :: v8 :: va_rf x :: st) w Q := by
  subst hx
  exact k
theorem kz_nz9 {x : Option Nat} {a : Nat} {v1 v2 v3 v4 v5 v6 v7 v8 v9 : Value} (hx : x = some a) (k : kz V G ob ot L M pc lv (v1 :: v2 :: v3 :: v4 :: v5 :: v6 :: v7 :: v8 :: v9 :: .ref a :: st) w Q) : kz V G ob ot L M pc lv (v1 :: v2 :: v3 :: v4 :: v5 :: v6 :: v7 :: v8 :: v9 :: va_rf x :: st) w Q := by
  subst hx
  exact k
end KZY
theorem kx_md_at {E : zE} {own : String} {j : Nat} {M' : kx_M} (h2 : (match kt_get kt_mcA own j with
  | some M => decide (M.1 = M'.1) && (decide (M.2.1.data.toList = M'.2.1.data.toList) && (decide (M.2.2.1 = M'.2.2.1) && (decide (M.2.2.2.1 = M'.2.2.2.1) && decide (M.2.2.2.2 = M'.2.2.2.2))))
  | none => false) = true) : kx_md (zV E) own j M'.1 = some M' := by
  show (kt_get kt_mcA own j).filter _ = _
  split at h2
  · rename_i M hM
    rw [hM]
    simp only [Bool.and_eq_true, decide_eq_true_eq] at h2
    obtain ⟨e1, e2, e3, e6, e7⟩ := h2
    have e3 : M.2.2 = M'.2.2 := Prod.ext e3 (Prod.ext e6 e7)
    have e4 : M.2.1 = M'.2.1 := by
      have : M.2.1.data = M'.2.1.data := Array.toList_inj.mp e2
      cases hx : M.2.1 with
      | mk d =>
        cases hy : M'.2.1 with
        | mk d' =>
          rw [hx, hy] at this
          simp only at this
          rw [this]
    have e5 : M = M' := Prod.ext e1 (Prod.ext e4 e3)
    subst e5
    simp
  · cases h2
theorem zen_0 : kw_en.findIdx? (fun q => decide (q.1 = "MeetingHouse$Sort" ∧ q.2.1 = "WORD" ∧ q.2.2.1 = "LMeetingHouse$Sort;")) = some 0 := by decide +kernel
theorem zen_1 : kw_en.findIdx? (fun q => decide (q.1 = "MeetingHouse$Sort" ∧ q.2.1 = "NAME" ∧ q.2.2.1 = "LMeetingHouse$Sort;")) = some 1 := by decide +kernel
theorem zen_2 : kw_en.findIdx? (fun q => decide (q.1 = "MeetingHouse$Sort" ∧ q.2.1 = "NUMBER" ∧ q.2.2.1 = "LMeetingHouse$Sort;")) = some 2 := by decide +kernel
theorem zen_3 : kw_en.findIdx? (fun q => decide (q.1 = "MeetingHouse$Sort" ∧ q.2.1 = "STRING" ∧ q.2.2.1 = "LMeetingHouse$Sort;")) = some 3 := by decide +kernel
theorem zen_4 : kw_en.findIdx? (fun q => decide (q.1 = "MeetingHouse$Sort" ∧ q.2.1 = "CHARACTER" ∧ q.2.2.1 = "LMeetingHouse$Sort;")) = some 4 := by decide +kernel
theorem zen_5 : kw_en.findIdx? (fun q => decide (q.1 = "MeetingHouse$Sort" ∧ q.2.1 = "SIGN" ∧ q.2.2.1 = "LMeetingHouse$Sort;")) = some 5 := by decide +kernel
theorem zen_6 : kw_en.findIdx? (fun q => decide (q.1 = "MeetingHouse$Sort" ∧ q.2.1 = "BAD" ∧ q.2.2.1 = "LMeetingHouse$Sort;")) = some 6 := by decide +kernel
theorem zen_7 : kw_en.findIdx? (fun q => decide (q.1 = "MeetingHouse$Sort" ∧ q.2.1 = "LINE" ∧ q.2.2.1 = "LMeetingHouse$Sort;")) = some 7 := by decide +kernel
theorem zen_8 : kw_en.findIdx? (fun q => decide (q.1 = "MeetingHouse$Sort" ∧ q.2.1 = "END" ∧ q.2.2.1 = "LMeetingHouse$Sort;")) = some 8 := by decide +kernel
theorem zen_9 : kw_en.findIdx? (fun q => decide (q.1 = "MeetingHouse$Kind" ∧ q.2.1 = "PROCESS" ∧ q.2.2.1 = "LMeetingHouse$Kind;")) = some 9 := by decide +kernel
theorem zen_10 : kw_en.findIdx? (fun q => decide (q.1 = "MeetingHouse$Kind" ∧ q.2.1 = "VARIABLES" ∧ q.2.2.1 = "LMeetingHouse$Kind;")) = some 10 := by decide +kernel
theorem zen_11 : kw_en.findIdx? (fun q => decide (q.1 = "MeetingHouse$Kind" ∧ q.2.1 = "FUNCTION" ∧ q.2.2.1 = "LMeetingHouse$Kind;")) = some 11 := by decide +kernel
theorem zen_12 : kw_en.findIdx? (fun q => decide (q.1 = "MeetingHouse$Kind" ∧ q.2.1 = "FORMAL" ∧ q.2.2.1 = "LMeetingHouse$Kind;")) = some 12 := by decide +kernel
theorem zen_13 : kw_en.findIdx? (fun q => decide (q.1 = "MeetingHouse$Kind" ∧ q.2.1 = "NAME" ∧ q.2.2.1 = "LMeetingHouse$Kind;")) = some 13 := by decide +kernel
theorem zen_14 : kw_en.findIdx? (fun q => decide (q.1 = "MeetingHouse$Kind" ∧ q.2.1 = "ONE" ∧ q.2.2.1 = "LMeetingHouse$Kind;")) = some 14 := by decide +kernel
theorem zen_15 : kw_en.findIdx? (fun q => decide (q.1 = "MeetingHouse$Kind" ∧ q.2.1 = "NUMBER" ∧ q.2.2.1 = "LMeetingHouse$Kind;")) = some 15 := by decide +kernel
theorem zen_16 : kw_en.findIdx? (fun q => decide (q.1 = "MeetingHouse$Kind" ∧ q.2.1 = "STRING" ∧ q.2.2.1 = "LMeetingHouse$Kind;")) = some 16 := by decide +kernel
theorem zen_17 : kw_en.findIdx? (fun q => decide (q.1 = "MeetingHouse$Kind" ∧ q.2.1 = "CHARACTER" ∧ q.2.2.1 = "LMeetingHouse$Kind;")) = some 17 := by decide +kernel
theorem zen_18 : kw_en.findIdx? (fun q => decide (q.1 = "MeetingHouse$Kind" ∧ q.2.1 = "ELEMENT" ∧ q.2.2.1 = "LMeetingHouse$Kind;")) = some 18 := by decide +kernel
theorem zen_19 : kw_en.findIdx? (fun q => decide (q.1 = "MeetingHouse$Kind" ∧ q.2.1 = "APPLY" ∧ q.2.2.1 = "LMeetingHouse$Kind;")) = some 19 := by decide +kernel
theorem zen_20 : kw_en.findIdx? (fun q => decide (q.1 = "MeetingHouse$Kind" ∧ q.2.1 = "TRUTH" ∧ q.2.2.1 = "LMeetingHouse$Kind;")) = some 20 := by decide +kernel
theorem zen_21 : kw_en.findIdx? (fun q => decide (q.1 = "MeetingHouse$Kind" ∧ q.2.1 = "CONVERSION" ∧ q.2.2.1 = "LMeetingHouse$Kind;")) = some 21 := by decide +kernel
theorem zen_22 : kw_en.findIdx? (fun q => decide (q.1 = "MeetingHouse$Kind" ∧ q.2.1 = "TABLE" ∧ q.2.2.1 = "LMeetingHouse$Kind;")) = some 22 := by decide +kernel
theorem zen_23 : kw_en.findIdx? (fun q => decide (q.1 = "MeetingHouse$Kind" ∧ q.2.1 = "CHAIN" ∧ q.2.2.1 = "LMeetingHouse$Kind;")) = some 23 := by decide +kernel
theorem zen_24 : kw_en.findIdx? (fun q => decide (q.1 = "MeetingHouse$Kind" ∧ q.2.1 = "TWO" ∧ q.2.2.1 = "LMeetingHouse$Kind;")) = some 24 := by decide +kernel
theorem zen_25 : kw_en.findIdx? (fun q => decide (q.1 = "MeetingHouse$Kind" ∧ q.2.1 = "ABBREVIATION" ∧ q.2.2.1 = "LMeetingHouse$Kind;")) = some 25 := by decide +kernel
theorem zen_26 : kw_en.findIdx? (fun q => decide (q.1 = "MeetingHouse$Kind" ∧ q.2.1 = "CHANNELS" ∧ q.2.2.1 = "LMeetingHouse$Kind;")) = some 26 := by decide +kernel
theorem zen_27 : kw_en.findIdx? (fun q => decide (q.1 = "MeetingHouse$Kind" ∧ q.2.1 = "TIMERS" ∧ q.2.2.1 = "LMeetingHouse$Kind;")) = some 27 := by decide +kernel
theorem zen_28 : kw_en.findIdx? (fun q => decide (q.1 = "MeetingHouse$Kind" ∧ q.2.1 = "VALUE" ∧ q.2.2.1 = "LMeetingHouse$Kind;")) = some 28 := by decide +kernel
theorem zen_29 : kw_en.findIdx? (fun q => decide (q.1 = "MeetingHouse$Kind" ∧ q.2.1 = "PROTOCOL" ∧ q.2.2.1 = "LMeetingHouse$Kind;")) = some 29 := by decide +kernel
theorem zen_30 : kw_en.findIdx? (fun q => decide (q.1 = "MeetingHouse$Kind" ∧ q.2.1 = "PART" ∧ q.2.2.1 = "LMeetingHouse$Kind;")) = some 30 := by decide +kernel
theorem zen_31 : kw_en.findIdx? (fun q => decide (q.1 = "MeetingHouse$Kind" ∧ q.2.1 = "TAGS" ∧ q.2.2.1 = "LMeetingHouse$Kind;")) = some 31 := by decide +kernel
theorem zen_32 : kw_en.findIdx? (fun q => decide (q.1 = "MeetingHouse$Kind" ∧ q.2.1 = "TAG" ∧ q.2.2.1 = "LMeetingHouse$Kind;")) = some 32 := by decide +kernel
theorem zen_33 : kw_en.findIdx? (fun q => decide (q.1 = "MeetingHouse$Kind" ∧ q.2.1 = "PROC" ∧ q.2.2.1 = "LMeetingHouse$Kind;")) = some 33 := by decide +kernel
theorem zen_34 : kw_en.findIdx? (fun q => decide (q.1 = "MeetingHouse$Kind" ∧ q.2.1 = "SKIP" ∧ q.2.2.1 = "LMeetingHouse$Kind;")) = some 34 := by decide +kernel
theorem zen_35 : kw_en.findIdx? (fun q => decide (q.1 = "MeetingHouse$Kind" ∧ q.2.1 = "CALL" ∧ q.2.2.1 = "LMeetingHouse$Kind;")) = some 35 := by decide +kernel
theorem zen_36 : kw_en.findIdx? (fun q => decide (q.1 = "MeetingHouse$Kind" ∧ q.2.1 = "ASSIGN" ∧ q.2.2.1 = "LMeetingHouse$Kind;")) = some 36 := by decide +kernel
theorem zen_37 : kw_en.findIdx? (fun q => decide (q.1 = "MeetingHouse$Kind" ∧ q.2.1 = "OUTPUT" ∧ q.2.2.1 = "LMeetingHouse$Kind;")) = some 37 := by decide +kernel
theorem zen_38 : kw_en.findIdx? (fun q => decide (q.1 = "MeetingHouse$Kind" ∧ q.2.1 = "DELAY" ∧ q.2.2.1 = "LMeetingHouse$Kind;")) = some 38 := by decide +kernel
theorem zen_39 : kw_en.findIdx? (fun q => decide (q.1 = "MeetingHouse$Kind" ∧ q.2.1 = "CASE_INPUT" ∧ q.2.2.1 = "LMeetingHouse$Kind;")) = some 39 := by decide +kernel
theorem zen_40 : kw_en.findIdx? (fun q => decide (q.1 = "MeetingHouse$Kind" ∧ q.2.1 = "INPUT" ∧ q.2.2.1 = "LMeetingHouse$Kind;")) = some 40 := by decide +kernel
theorem zen_41 : kw_en.findIdx? (fun q => decide (q.1 = "MeetingHouse$Kind" ∧ q.2.1 = "VARIANT" ∧ q.2.2.1 = "LMeetingHouse$Kind;")) = some 41 := by decide +kernel
theorem zen_42 : kw_en.findIdx? (fun q => decide (q.1 = "MeetingHouse$Kind" ∧ q.2.1 = "STOP" ∧ q.2.2.1 = "LMeetingHouse$Kind;")) = some 42 := by decide +kernel
theorem zen_43 : kw_en.findIdx? (fun q => decide (q.1 = "MeetingHouse$Kind" ∧ q.2.1 = "SEQ" ∧ q.2.2.1 = "LMeetingHouse$Kind;")) = some 43 := by decide +kernel
theorem zen_44 : kw_en.findIdx? (fun q => decide (q.1 = "MeetingHouse$Kind" ∧ q.2.1 = "PAR" ∧ q.2.2.1 = "LMeetingHouse$Kind;")) = some 44 := by decide +kernel
theorem zen_45 : kw_en.findIdx? (fun q => decide (q.1 = "MeetingHouse$Kind" ∧ q.2.1 = "REPLICATOR" ∧ q.2.2.1 = "LMeetingHouse$Kind;")) = some 45 := by decide +kernel
theorem zen_46 : kw_en.findIdx? (fun q => decide (q.1 = "MeetingHouse$Kind" ∧ q.2.1 = "IF" ∧ q.2.2.1 = "LMeetingHouse$Kind;")) = some 46 := by decide +kernel
theorem zen_47 : kw_en.findIdx? (fun q => decide (q.1 = "MeetingHouse$Kind" ∧ q.2.1 = "CHOICE" ∧ q.2.2.1 = "LMeetingHouse$Kind;")) = some 47 := by decide +kernel
theorem zen_48 : kw_en.findIdx? (fun q => decide (q.1 = "MeetingHouse$Kind" ∧ q.2.1 = "CASE" ∧ q.2.2.1 = "LMeetingHouse$Kind;")) = some 48 := by decide +kernel
theorem zen_49 : kw_en.findIdx? (fun q => decide (q.1 = "MeetingHouse$Kind" ∧ q.2.1 = "OPTION" ∧ q.2.2.1 = "LMeetingHouse$Kind;")) = some 49 := by decide +kernel
theorem zen_50 : kw_en.findIdx? (fun q => decide (q.1 = "MeetingHouse$Kind" ∧ q.2.1 = "WHILE" ∧ q.2.2.1 = "LMeetingHouse$Kind;")) = some 50 := by decide +kernel
theorem zen_51 : kw_en.findIdx? (fun q => decide (q.1 = "MeetingHouse$Kind" ∧ q.2.1 = "ALT" ∧ q.2.2.1 = "LMeetingHouse$Kind;")) = some 51 := by decide +kernel
theorem zen_52 : kw_en.findIdx? (fun q => decide (q.1 = "MeetingHouse$Kind" ∧ q.2.1 = "GUARD" ∧ q.2.2.1 = "LMeetingHouse$Kind;")) = some 52 := by decide +kernel
theorem zen_53 : kw_en.findIdx? (fun q => decide (q.1 = "MeetingHouse$What" ∧ q.2.1 = "CHANNEL" ∧ q.2.2.1 = "LMeetingHouse$What;")) = some 53 := by decide +kernel
theorem zen_54 : kw_en.findIdx? (fun q => decide (q.1 = "MeetingHouse$What" ∧ q.2.1 = "VARIABLE" ∧ q.2.2.1 = "LMeetingHouse$What;")) = some 54 := by decide +kernel
theorem zen_55 : kw_en.findIdx? (fun q => decide (q.1 = "MeetingHouse$What" ∧ q.2.1 = "VALUE" ∧ q.2.2.1 = "LMeetingHouse$What;")) = some 55 := by decide +kernel
theorem zen_56 : kw_en.findIdx? (fun q => decide (q.1 = "MeetingHouse$What" ∧ q.2.1 = "FUNCTION" ∧ q.2.2.1 = "LMeetingHouse$What;")) = some 56 := by decide +kernel
theorem zen_57 : kw_en.findIdx? (fun q => decide (q.1 = "MeetingHouse$What" ∧ q.2.1 = "PROTOCOL" ∧ q.2.2.1 = "LMeetingHouse$What;")) = some 57 := by decide +kernel
theorem zen_58 : kw_en.findIdx? (fun q => decide (q.1 = "MeetingHouse$What" ∧ q.2.1 = "TIMER" ∧ q.2.2.1 = "LMeetingHouse$What;")) = some 58 := by decide +kernel
theorem zen_59 : kw_en.findIdx? (fun q => decide (q.1 = "MeetingHouse$What" ∧ q.2.1 = "TAG" ∧ q.2.2.1 = "LMeetingHouse$What;")) = some 59 := by decide +kernel
theorem zen_60 : kw_en.findIdx? (fun q => decide (q.1 = "MeetingHouse$What" ∧ q.2.1 = "PROC" ∧ q.2.2.1 = "LMeetingHouse$What;")) = some 60 := by decide +kernel
theorem zen_61 : kw_en.findIdx? (fun q => decide (q.1 = "MeetingHouse$State" ∧ q.2.1 = "READY" ∧ q.2.2.1 = "LMeetingHouse$State;")) = some 61 := by decide +kernel
theorem zen_62 : kw_en.findIdx? (fun q => decide (q.1 = "MeetingHouse$State" ∧ q.2.1 = "TIME" ∧ q.2.2.1 = "LMeetingHouse$State;")) = some 62 := by decide +kernel
theorem zen_63 : kw_en.findIdx? (fun q => decide (q.1 = "MeetingHouse$State" ∧ q.2.1 = "CHOOSES" ∧ q.2.2.1 = "LMeetingHouse$State;")) = some 63 := by decide +kernel
theorem zen_64 : kw_en.findIdx? (fun q => decide (q.1 = "MeetingHouse$State" ∧ q.2.1 = "KEY" ∧ q.2.2.1 = "LMeetingHouse$State;")) = some 64 := by decide +kernel
theorem zen_65 : kw_en.findIdx? (fun q => decide (q.1 = "MeetingHouse$State" ∧ q.2.1 = "STOPPED" ∧ q.2.2.1 = "LMeetingHouse$State;")) = some 65 := by decide +kernel
theorem zen_66 : kw_en.findIdx? (fun q => decide (q.1 = "MeetingHouse$State" ∧ q.2.1 = "WRITES" ∧ q.2.2.1 = "LMeetingHouse$State;")) = some 66 := by decide +kernel
theorem zen_67 : kw_en.findIdx? (fun q => decide (q.1 = "MeetingHouse$State" ∧ q.2.1 = "READS" ∧ q.2.2.1 = "LMeetingHouse$State;")) = some 67 := by decide +kernel
theorem zen_68 : kw_en.findIdx? (fun q => decide (q.1 = "MeetingHouse$State" ∧ q.2.1 = "BRANCHES" ∧ q.2.2.1 = "LMeetingHouse$State;")) = some 68 := by decide +kernel
theorem zac_n {E : zE} : Jvm.Cond.native arraycopyName ∈ kx_Tb (zV E) := lw_g (lw_at lw_m3 217 rfl) rfl
theorem zac_s {E : zE} : Jvm.Cond.static arraycopyName ∈ kx_Tb (zV E) := lw_g (lw_at lw_m3 216 rfl) rfl
theorem zac_i {E : zE} : Jvm.Cond.initialized "java/lang/System" ∈ kx_Tb (zV E) := lw_g (lw_at lw_m1 20 rfl) rfl
theorem zac_w : nativeFrameWords "java/lang/System" "arraycopy" 5 = 7 := by decide +kernel
theorem zoi_1 {E : zE} : Jvm.Cond.instanceMethod Lib.objectInit ∈ kx_Tb (zV E) := lw_g (lw_at lw_m1 44 rfl) rfl
theorem zoi_2 {E : zE} : Jvm.Cond.code Lib.objectInit ⟨#[0xb1]⟩ 1 none ∈ kx_Tb (zV E) := by
  have e : (⟨#[0xb1]⟩ : ByteArray) = object_method_1_code := z_code_eq (by decide +kernel)
  rw [e]
  exact lw_g (lw_at lw_m1 45 rfl) rfl
theorem zft_5 {E : zE} : (kx_tl (zV E)).findIdx? (fun y => y == FieldType.object "MeetingHouse$Node") = some 5 := by
  show kw_tl.findIdx? _ = _
  decide +kernel
theorem zao_5 {E : zE} : Jvm.Cond.arrayOver (.object "MeetingHouse$Node") ∈ kx_Ns (zV E) := List.mem_append_left _ (List.mem_filter.mpr ⟨lw_at lw_m1 215 rfl, rfl⟩)
theorem zft_6 {E : zE} : (kx_tl (zV E)).findIdx? (fun y => y == FieldType.object "MeetingHouse$Symbol") = some 6 := by
  show kw_tl.findIdx? _ = _
  decide +kernel
theorem zao_6 {E : zE} : Jvm.Cond.arrayOver (.object "MeetingHouse$Symbol") ∈ kx_Ns (zV E) := List.mem_append_left _ (List.mem_filter.mpr ⟨lw_at lw_m1 217 rfl, rfl⟩)
theorem zft_7 {E : zE} : (kx_tl (zV E)).findIdx? (fun y => y == FieldType.object "MeetingHouse$Unit") = some 7 := by
  show kw_tl.findIdx? _ = _
  decide +kernel
theorem zao_7 {E : zE} : Jvm.Cond.arrayOver (.object "MeetingHouse$Unit") ∈ kx_Ns (zV E) := List.mem_append_left _ (List.mem_filter.mpr ⟨lw_at lw_m1 219 rfl, rfl⟩)
theorem zft_8 {E : zE} : (kx_tl (zV E)).findIdx? (fun y => y == FieldType.object "MeetingHouse$Task") = some 8 := by
  show kw_tl.findIdx? _ = _
  decide +kernel
theorem zao_8 {E : zE} : Jvm.Cond.arrayOver (.object "MeetingHouse$Task") ∈ kx_Ns (zV E) := List.mem_append_left _ (List.mem_filter.mpr ⟨lw_at lw_m3 20 rfl, rfl⟩)
theorem zcast_X13 {E : zE} : Jvm.Cond.castable "MeetingHouseModel$Halt" "MeetingHouseModel$Halt" ∈ kx_Ns (zV E) := List.mem_append_left _ (List.mem_filter.mpr ⟨lw_at lw_m12 76 rfl, rfl⟩)
theorem zcast_X1 {E : zE} : Jvm.Cond.castable "java/lang/ArithmeticException" "java/lang/ArithmeticException" ∈ kx_Ns (zV E) := List.mem_append_left _ (List.mem_filter.mpr ⟨lw_at lw_m1 133 rfl, rfl⟩)
theorem zo_s_Sort {E : zE} : Jvm.Cond.selects "MeetingHouse$Sort" ⟨"MeetingHouse$Sort", "ordinal", "()I"⟩ ⟨"MeetingHouse$Sort", "ordinal", "()I"⟩ ∉ kx_Tb (zV E) := by
  show _ ∉ lw_all
  intro h
  have h2 := (List.mem_filter.mp h).1
  revert h2
  decide +kernel
theorem zo_s_Kind {E : zE} : Jvm.Cond.selects "MeetingHouse$Kind" ⟨"MeetingHouse$Kind", "ordinal", "()I"⟩ ⟨"MeetingHouse$Kind", "ordinal", "()I"⟩ ∉ kx_Tb (zV E) := by
  show _ ∉ lw_all
  intro h
  have h2 := (List.mem_filter.mp h).1
  revert h2
  decide +kernel
theorem zo_s_State {E : zE} : Jvm.Cond.selects "MeetingHouse$State" ⟨"MeetingHouse$State", "ordinal", "()I"⟩ ⟨"MeetingHouse$State", "ordinal", "()I"⟩ ∉ kx_Tb (zV E) := by
  show _ ∉ lw_all
  intro h
  have h2 := (List.mem_filter.mp h).1
  revert h2
  decide +kernel
theorem zo_l_X5 {E : zE} : kx_ml (zV E) "MeetingHouse$Parser" 431 = some ⟨"MeetingHouse$Sort", "ordinal", "()I"⟩ := (show kt_get kt_mlA "MeetingHouse$Parser" 431 = some ⟨"MeetingHouse$Sort", "ordinal", "()I"⟩ from by decide +kernel)
theorem zo_m_X5 {E : zE} : kx_md (zV E) "MeetingHouse$Parser" 431 ⟨"java/lang/Enum", "ordinal", "()I"⟩ = some kt_M610 := kx_md_at (M' := kt_M610) (by decide +kernel)
theorem zo_u_X5 {E : zE} : ∀ u ∈ va_wsU "MeetingHouse$Parser" 431 "MeetingHouse$Sort" "java/lang/Enum" ⟨"MeetingHouse$Sort", "ordinal", "()I"⟩ ⟨"java/lang/Enum", "ordinal", "()I"⟩ [], u ∈ kx_Tb (zV E) := by
  intro u hu
  simp only [va_wsU, List.append_nil, List.mem_cons, List.not_mem_nil, or_false] at hu
  rcases hu with rfl | rfl | rfl | rfl | rfl
  · exact lw_g (lw_at lw_m5 173 rfl) rfl
  · exact lw_g (lw_at lw_m5 174 rfl) rfl
  · exact lw_g (lw_at lw_m5 176 rfl) rfl
  · exact lw_g (lw_at lw_m5 177 rfl) rfl
  · exact lw_g (lw_at lw_m1 24 rfl) rfl
theorem zo_l_X6 {E : zE} : kx_ml (zV E) "MeetingHouse$Names" 128 = some ⟨"MeetingHouse$Kind", "ordinal", "()I"⟩ := (show kt_get kt_mlA "MeetingHouse$Names" 128 = some ⟨"MeetingHouse$Kind", "ordinal", "()I"⟩ from by decide +kernel)
theorem zo_m_X6 {E : zE} : kx_md (zV E) "MeetingHouse$Names" 128 ⟨"java/lang/Enum", "ordinal", "()I"⟩ = some kt_M610 := kx_md_at (M' := kt_M610) (by decide +kernel)
theorem zo_u_X6 {E : zE} : ∀ u ∈ va_wsU "MeetingHouse$Names" 128 "MeetingHouse$Kind" "java/lang/Enum" ⟨"MeetingHouse$Kind", "ordinal", "()I"⟩ ⟨"java/lang/Enum", "ordinal", "()I"⟩ [], u ∈ kx_Tb (zV E) := by
  intro u hu
  simp only [va_wsU, List.append_nil, List.mem_cons, List.not_mem_nil, or_false] at hu
  rcases hu with rfl | rfl | rfl | rfl | rfl
  · exact lw_g (lw_at lw_m7 81 rfl) rfl
  · exact lw_g (lw_at lw_m7 82 rfl) rfl
  · exact lw_g (lw_at lw_m7 83 rfl) rfl
  · exact lw_g (lw_at lw_m5 177 rfl) rfl
  · exact lw_g (lw_at lw_m1 24 rfl) rfl
theorem zo_l_X7 {E : zE} : kx_ml (zV E) "MeetingHouse$Types" 95 = some ⟨"MeetingHouse$Kind", "ordinal", "()I"⟩ := (show kt_get kt_mlA "MeetingHouse$Types" 95 = some ⟨"MeetingHouse$Kind", "ordinal", "()I"⟩ from by decide +kernel)
theorem zo_m_X7 {E : zE} : kx_md (zV E) "MeetingHouse$Types" 95 ⟨"java/lang/Enum", "ordinal", "()I"⟩ = some kt_M610 := kx_md_at (M' := kt_M610) (by decide +kernel)
theorem zo_u_X7 {E : zE} : ∀ u ∈ va_wsU "MeetingHouse$Types" 95 "MeetingHouse$Kind" "java/lang/Enum" ⟨"MeetingHouse$Kind", "ordinal", "()I"⟩ ⟨"java/lang/Enum", "ordinal", "()I"⟩ [], u ∈ kx_Tb (zV E) := by
  intro u hu
  simp only [va_wsU, List.append_nil, List.mem_cons, List.not_mem_nil, or_false] at hu
  rcases hu with rfl | rfl | rfl | rfl | rfl
  · exact lw_g (lw_at lw_m7 219 rfl) rfl
  · exact lw_g (lw_at lw_m7 82 rfl) rfl
  · exact lw_g (lw_at lw_m7 83 rfl) rfl
  · exact lw_g (lw_at lw_m5 177 rfl) rfl
  · exact lw_g (lw_at lw_m1 24 rfl) rfl
theorem zo_l_X8 {E : zE} : kx_ml (zV E) "MeetingHouse$Uses" 202 = some ⟨"MeetingHouse$Kind", "ordinal", "()I"⟩ := (show kt_get kt_mlA "MeetingHouse$Uses" 202 = some ⟨"MeetingHouse$Kind", "ordinal", "()I"⟩ from by decide +kernel)
theorem zo_m_X8 {E : zE} : kx_md (zV E) "MeetingHouse$Uses" 202 ⟨"java/lang/Enum", "ordinal", "()I"⟩ = some kt_M610 := kx_md_at (M' := kt_M610) (by decide +kernel)
theorem zo_u_X8 {E : zE} : ∀ u ∈ va_wsU "MeetingHouse$Uses" 202 "MeetingHouse$Kind" "java/lang/Enum" ⟨"MeetingHouse$Kind", "ordinal", "()I"⟩ ⟨"java/lang/Enum", "ordinal", "()I"⟩ [], u ∈ kx_Tb (zV E) := by
  intro u hu
  simp only [va_wsU, List.append_nil, List.mem_cons, List.not_mem_nil, or_false] at hu
  rcases hu with rfl | rfl | rfl | rfl | rfl
  · exact lw_g (lw_at lw_m8 166 rfl) rfl
  · exact lw_g (lw_at lw_m7 82 rfl) rfl
  · exact lw_g (lw_at lw_m7 83 rfl) rfl
  · exact lw_g (lw_at lw_m5 177 rfl) rfl
  · exact lw_g (lw_at lw_m1 24 rfl) rfl
theorem zo_l_X9 {E : zE} : kx_ml (zV E) "MeetingHouse$Compiler" 157 = some ⟨"MeetingHouse$Kind", "ordinal", "()I"⟩ := (show kt_get kt_mlA "MeetingHouse$Compiler" 157 = some ⟨"MeetingHouse$Kind", "ordinal", "()I"⟩ from by decide +kernel)
theorem zo_m_X9 {E : zE} : kx_md (zV E) "MeetingHouse$Compiler" 157 ⟨"java/lang/Enum", "ordinal", "()I"⟩ = some kt_M610 := kx_md_at (M' := kt_M610) (by decide +kernel)
theorem zo_u_X9 {E : zE} : ∀ u ∈ va_wsU "MeetingHouse$Compiler" 157 "MeetingHouse$Kind" "java/lang/Enum" ⟨"MeetingHouse$Kind", "ordinal", "()I"⟩ ⟨"java/lang/Enum", "ordinal", "()I"⟩ [], u ∈ kx_Tb (zV E) := by
  intro u hu
  simp only [va_wsU, List.append_nil, List.mem_cons, List.not_mem_nil, or_false] at hu
  rcases hu with rfl | rfl | rfl | rfl | rfl
  · exact lw_g (lw_at lw_m9 138 rfl) rfl
  · exact lw_g (lw_at lw_m7 82 rfl) rfl
  · exact lw_g (lw_at lw_m7 83 rfl) rfl
  · exact lw_g (lw_at lw_m5 177 rfl) rfl
  · exact lw_g (lw_at lw_m1 24 rfl) rfl
theorem zo_l_X11 {E : zE} : kx_ml (zV E) "MeetingHouse$Machine" 488 = some ⟨"MeetingHouse$State", "ordinal", "()I"⟩ := (show kt_get kt_mlA "MeetingHouse$Machine" 488 = some ⟨"MeetingHouse$State", "ordinal", "()I"⟩ from by decide +kernel)
theorem zo_m_X11 {E : zE} : kx_md (zV E) "MeetingHouse$Machine" 488 ⟨"java/lang/Enum", "ordinal", "()I"⟩ = some kt_M610 := kx_md_at (M' := kt_M610) (by decide +kernel)
theorem zo_u_X11 {E : zE} : ∀ u ∈ va_wsU "MeetingHouse$Machine" 488 "MeetingHouse$State" "java/lang/Enum" ⟨"MeetingHouse$State", "ordinal", "()I"⟩ ⟨"java/lang/Enum", "ordinal", "()I"⟩ [], u ∈ kx_Tb (zV E) := by
  intro u hu
  simp only [va_wsU, List.append_nil, List.mem_cons, List.not_mem_nil, or_false] at hu
  rcases hu with rfl | rfl | rfl | rfl | rfl
  · exact lw_g (lw_at lw_m11 223 rfl) rfl
  · exact lw_g (lw_at lw_m11 224 rfl) rfl
  · exact lw_g (lw_at lw_m11 225 rfl) rfl
  · exact lw_g (lw_at lw_m5 177 rfl) rfl
  · exact lw_g (lw_at lw_m1 24 rfl) rfl
