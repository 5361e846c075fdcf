/-! ===== RUNS OVER A TYPED STATE, part 2: runs, rules ===== -/
/-- a run from here, over a state, comes to an end at which Q holds -/
def kz (V : kx_V) (G : wT) (ob : Nat → Nat) (ot : Nat → Option kx_E) (L : Nat) (M : kx_M) (pc : Nat) (lv : kx_L) (st : List Value) (w : wS) (Q : kx_Rs → wS → Prop) : Prop := ∀ F, L ≤ 19 * F → ∀ X, wR V G ob ot w X → ky V F L M pc lv st X (w_C w) (w_S w) (fun r X' C' S' => ∃ w', wR V G ob ot w' X' ∧ wle w w' ∧ w_C w' = C' ∧ w_S w' = S' ∧ Q r w')
/-- what a field's link means: a class, a place, a sort of field -/
def wF (V : kx_V) (G : wT) (own : String) (j c k x : Nat) : Prop := ∃ (q : String × String × String) (Cn : String) (T : u_T) (N : Nat), kx_fl V own j = some q ∧ (kx_cl V)[c]? = some (Cn, T, N) ∧ kx_fk T N q = some k ∧ k < G.2.2.1 c ∧ G.1 c k = x
/-- .. one that is written -/
def wP (V : kx_V) (G : wT) (own : String) (j c k x : Nat) (ty : FieldType) : Prop := ∃ (q : String × String × String) (Cn : String) (T : u_T) (N : Nat), kx_fl V own j = some q ∧ (kx_cl V)[c]? = some (Cn, T, N) ∧ kx_fk T N q = some k ∧ k < G.2.2.1 c ∧ G.1 c k = x ∧ parseFieldDescriptor q.2.2 = some ty ∧ (T k).2.2.2 = false
section KZ
variable {V : kx_V} {G : wT} {ob : Nat → Nat} {ot : Nat → Option kx_E} {L : Nat} {M : kx_M} {pc : Nat} {lv : kx_L} {st : List Value} {w : wS} {Q : kx_Rs → wS → Prop}
theorem kz_mono {Q' : kx_Rs → wS → Prop} (h : kz V G ob ot L M pc lv st w Q) (hq : ∀ r w', wle w w' → Q r w' → Q' r w') : kz V G ob ot L M pc lv st w Q' := fun F hF X hX => ky_mono (h F hF X hX) (fun r X' C S ⟨w', h1, h2, h3, h4, h5⟩ => ⟨w', h1, h2, h3, h4, hq r w' h2 h5⟩)
/-- a step that leaves the heap -/
theorem kz_s {i : Instr} {len : Nat} (hd : decode M.2.1 pc = .ok (i, len)) {pc' : Nat} {lv' : kx_L} {st' : List Value} (h : ∀ X, kx_st1 V M.1.cls M.1.name M.2.2.1 i len pc lv st X = some (pc', lv', st', X, 0, 0)) (k : kz V G ob ot L M pc' lv' st' w Q) : kz V G ob ot L M pc lv st w Q := fun F hF X hX => ky_s hd (h X) (k F hF X hX)
theorem kz_gfi {j c o k : Nat} (hd : decode M.2.1 pc = .ok (.getfield j, 3)) (hf : wF V G M.1.cls j c k 0) (hl : G.2.2.2 c o = true ∨ w_l w ob c o) (kk : kz V G ob ot L M (pc + 3) lv (.int (w_i w c o k) :: st) w Q) : kz V G ob ot L M pc lv (.ref (w_adr ob c o) :: st) w Q := by
  obtain ⟨q, Cn, T, N, h1, h2, h3, h4, h5⟩ := hf
  intro F hF X hX
  exact ky_getf hd h1 h2 h3 (hX.obj hl) (v := .int (w_i w c o k)) (by rw [w_fs_at h4]; unfold w_val; rw [h5]) (kk F hF X hX)
theorem kz_gfg {j c o k : Nat} (hd : decode M.2.1 pc = .ok (.getfield j, 3)) (hf : wF V G M.1.cls j c k 1) (hl : G.2.2.2 c o = true ∨ w_l w ob c o) (kk : kz V G ob ot L M (pc + 3) lv (.long (w_g w c o k) :: st) w Q) : kz V G ob ot L M pc lv (.ref (w_adr ob c o) :: st) w Q := by
  obtain ⟨q, Cn, T, N, h1, h2, h3, h4, h5⟩ := hf
  intro F hF X hX
  exact ky_getf hd h1 h2 h3 (hX.obj hl) (v := .long (w_g w c o k)) (by rw [w_fs_at h4]; unfold w_val; rw [h5]) (kk F hF X hX)
theorem kz_gfp {j c o k : Nat} (hd : decode M.2.1 pc = .ok (.getfield j, 3)) (hf : wF V G M.1.cls j c k 2) (hl : G.2.2.2 c o = true ∨ w_l w ob c o) (kk : kz V G ob ot L M (pc + 3) lv (va_rf (w_p w c o k) :: st) w Q) : kz V G ob ot L M pc lv (.ref (w_adr ob c o) :: st) w Q := by
  obtain ⟨q, Cn, T, N, h1, h2, h3, h4, h5⟩ := hf
  intro F hF X hX
  exact ky_getf hd h1 h2 h3 (hX.obj hl) (v := va_rf (w_p w c o k)) (by rw [w_fs_at h4]; unfold w_val; rw [h5]) (kk F hF X hX)
theorem kz_gfa {j c o k : Nat} (hd : decode M.2.1 pc = .ok (.getfield j, 3)) (hf : wF V G M.1.cls j c k 3) (hl : G.2.2.2 c o = true ∨ w_l w ob c o) (kk : kz V G ob ot L M (pc + 3) lv (.ref (w_d w c o k) :: st) w Q) : kz V G ob ot L M pc lv (.ref (w_adr ob c o) :: st) w Q := by
  obtain ⟨q, Cn, T, N, h1, h2, h3, h4, h5⟩ := hf
  intro F hF X hX
  exact ky_getf hd h1 h2 h3 (hX.obj hl) (v := .ref (w_d w c o k)) (by rw [w_fs_at h4]; unfold w_val; rw [h5]) (kk F hF X hX)
theorem kz_gfc {j c o k x : Nat} (hd : decode M.2.1 pc = .ok (.getfield j, 3)) (hf : wF V G M.1.cls j c k (x + 4)) (hl : G.2.2.2 c o = true ∨ w_l w ob c o) (kk : kz V G ob ot L M (pc + 3) lv (.ref (ob x) :: st) w Q) : kz V G ob ot L M pc lv (.ref (w_adr ob c o) :: st) w Q := by
  obtain ⟨q, Cn, T, N, h1, h2, h3, h4, h5⟩ := hf
  intro F hF X hX
  exact ky_getf hd h1 h2 h3 (hX.obj hl) (v := .ref (ob x)) (by rw [w_fs_at h4]; unfold w_val; rw [h5]) (kk F hF X hX)
theorem kz_pfi {j c o k : Nat} (hd : decode M.2.1 pc = .ok (.putfield j, 3)) (hf : wP V G M.1.cls j c k 0 .int) (hl : G.2.2.2 c o = true ∨ w_l w ob c o) {n : Int32} (kk : kz V G ob ot L M (pc + 3) lv st (ws_i w c o k n) Q) : kz V G ob ot L M pc lv (.int n :: .ref (w_adr ob c o) :: st) w Q := by
  obtain ⟨q, Cn, T, N, h1, h2, h3, h4, h5, h6, h8⟩ := hf
  intro F hF X hX
  exact ky_putf hd h1 h2 h3 h6 h8 (hX.obj hl) (hX.lo (hX.live hl)) rfl rfl (by rw [w_fs_len]; exact h4) (kk F hF _ (hX.seti hl h4 h5 n))
theorem kz_pfz {j c o k : Nat} (hd : decode M.2.1 pc = .ok (.putfield j, 3)) (hf : wP V G M.1.cls j c k 0 .boolean) (hl : G.2.2.2 c o = true ∨ w_l w ob c o) {n : Int32} (hn : n = 0 ∨ n = 1) (kk : kz V G ob ot L M (pc + 3) lv st (ws_i w c o k n) Q) : kz V G ob ot L M pc lv (.int n :: .ref (w_adr ob c o) :: st) w Q := by
  obtain ⟨q, Cn, T, N, h1, h2, h3, h4, h5, h6, h8⟩ := hf
  intro F hF X hX
  have h9 : narrow .boolean (.int n) = .int n := by
    rcases hn with rfl | rfl
    · rfl
    · rfl
  have h10 : fits .boolean (.int n) = true := by
    rcases hn with rfl | rfl
    · rfl
    · rfl
  exact ky_putf hd h1 h2 h3 h6 h8 (hX.obj hl) (hX.lo (hX.live hl)) h9 h10 (by rw [w_fs_len]; exact h4) (kk F hF _ (hX.seti hl h4 h5 n))
theorem kz_pfg {j c o k : Nat} (hd : decode M.2.1 pc = .ok (.putfield j, 3)) (hf : wP V G M.1.cls j c k 1 .long) (hl : G.2.2.2 c o = true ∨ w_l w ob c o) {n : Int64} (kk : kz V G ob ot L M (pc + 3) lv st (ws_g w c o k n) Q) : kz V G ob ot L M pc lv (.long n :: .ref (w_adr ob c o) :: st) w Q := by
  obtain ⟨q, Cn, T, N, h1, h2, h3, h4, h5, h6, h8⟩ := hf
  intro F hF X hX
  exact ky_putf hd h1 h2 h3 h6 h8 (hX.obj hl) (hX.lo (hX.live hl)) rfl rfl (by rw [w_fs_len]; exact h4) (kk F hF _ (hX.setg hl h4 h5 n))
theorem kz_pfp {j c o k : Nat} {Cx : String} (hd : decode M.2.1 pc = .ok (.putfield j, 3)) (hf : wP V G M.1.cls j c k 2 (.object Cx)) (hl : G.2.2.2 c o = true ∨ w_l w ob c o) {n : Option Nat} (kk : kz V G ob ot L M (pc + 3) lv st (ws_p w c o k n) Q) : kz V G ob ot L M pc lv (va_rf n :: .ref (w_adr ob c o) :: st) w Q := by
  obtain ⟨q, Cn, T, N, h1, h2, h3, h4, h5, h6, h8⟩ := hf
  intro F hF X hX
  refine ky_putf hd h1 h2 h3 h6 h8 (hX.obj hl) (hX.lo (hX.live hl)) ?_ ?_ (by rw [w_fs_len]; exact h4) (kk F hF _ (hX.setp hl h4 h5 n))
  · cases n <;> rfl
  · cases n <;> rfl
theorem kz_iald {i : Int32} {c o k : Nat} (hd : decode M.2.1 pc = .ok (.iaload, 1)) (ho : w_own w G ob 0 c o k) {a : Nat} (ha : w_aa G ob w c o k = a) (ht : (kx_tl V)[0]? = some .int) {A : Prop} (h : kx_inb i (w_n w c o k) = true ∧ A) (kk : A → kz V G ob ot L M (pc + 1) lv (.int (w_a w c o k i.toNatClampNeg) :: st) w Q) : kz V G ob ot L M pc lv (.int i :: .ref a :: st) w Q := by
  subst ha
  intro F hF X hX
  exact ky_iald hd (hX.own ho).2.1 ⟨ht, h.1⟩ (kk h.2 F hF X hX)
theorem kz_bald {i : Int32} {c o k : Nat} (hd : decode M.2.1 pc = .ok (.baload, 1)) (ho : w_own w G ob 1 c o k) {a : Nat} (ha : w_aa G ob w c o k = a) (ht : (kx_tl V)[1]? = some .byte) {A : Prop} (h : kx_inb i (w_n w c o k) = true ∧ A) (kk : A → kz V G ob ot L M (pc + 1) lv (.int (w_a w c o k i.toNatClampNeg) :: st) w Q) : kz V G ob ot L M pc lv (.int i :: .ref a :: st) w Q := by
  subst ha
  intro F hF X hX
  exact ky_bald hd (hX.own ho).2.1 ⟨Or.inl ht, h.1⟩ (kk h.2 F hF X hX)
theorem kz_zald {i : Int32} {c o k : Nat} (hd : decode M.2.1 pc = .ok (.baload, 1)) (ho : w_own w G ob 2 c o k) {a : Nat} (ha : w_aa G ob w c o k = a) (ht : (kx_tl V)[2]? = some .boolean) {A : Prop} (h : kx_inb i (w_n w c o k) = true ∧ A) (kk : A → kz V G ob ot L M (pc + 1) lv (.int (w_a w c o k i.toNatClampNeg) :: st) w Q) : kz V G ob ot L M pc lv (.int i :: .ref a :: st) w Q := by
  subst ha
  intro F hF X hX
  exact ky_bald hd (hX.own ho).2.1 ⟨Or.inr ht, h.1⟩ (kk h.2 F hF X hX)
theorem kz_lald {i : Int32} {c o k : Nat} (hd : decode M.2.1 pc = .ok (.laload, 1)) (ho : w_own w G ob 3 c o k) {a : Nat} (ha : w_aa G ob w c o k = a) (ht : (kx_tl V)[3]? = some .long) {A : Prop} (h : kx_inb i (w_n w c o k) = true ∧ A) (kk : A → kz V G ob ot L M (pc + 1) lv (.long (w_b w c o k i.toNatClampNeg) :: st) w Q) : kz V G ob ot L M pc lv (.int i :: .ref a :: st) w Q := by
  subst ha
  intro F hF X hX
  exact ky_lald hd (hX.own ho).2.1 ⟨ht, h.1⟩ (kk h.2 F hF X hX)
theorem kz_aald {i : Int32} {τ c o k : Nat} {ty : FieldType} (hd : decode M.2.1 pc = .ok (.aaload, 1)) (ho : w_own w G ob (τ + 4) c o k) {a : Nat} (ha : w_aa G ob w c o k = a) (ht : (kx_tl V)[τ + 4]? = some ty) (hr : ty.isReference = true) {A : Prop} (h : kx_inb i (w_n w c o k) = true ∧ A) (kk : A → kz V G ob ot L M (pc + 1) lv (va_rf (w_r w c o k i.toNatClampNeg) :: st) w Q) : kz V G ob ot L M pc lv (.int i :: .ref a :: st) w Q := by
  subst ha
  intro F hF X hX
  exact ky_aald hd (hX.own ho).2.1 ht ⟨hr, h.1⟩ (kk h.2 F hF X hX)
theorem kz_alen {τ c o k : Nat} (hd : decode M.2.1 pc = .ok (.arraylength, 1)) (ho : w_own w G ob τ c o k) {a : Nat} (ha : w_aa G ob w c o k = a) (ht : τ < (kx_tl V).length) (kk : kz V G ob ot L M (pc + 1) lv (.int (Int32.ofNat (w_n w c o k)) :: st) w Q) : kz V G ob ot L M pc lv (.ref a :: st) w Q := by
  subst ha
  intro F hF X hX
  exact ky_alen hd (hX.own ho).2.1 ht (kk F hF X hX)
theorem kz_iast {i x : Int32} {c o k : Nat} (hd : decode M.2.1 pc = .ok (.iastore, 1)) (ho : w_own w G ob 0 c o k) {a : Nat} (ha : w_aa G ob w c o k = a) (ht : (kx_tl V)[0]? = some .int) {A : Prop} (h : kx_inb i (w_n w c o k) = true ∧ A) (kk : A → kz V G ob ot L M (pc + 1) lv st (ws_a w c o k i.toNatClampNeg x) Q) : kz V G ob ot L M pc lv (.int x :: .int i :: .ref a :: st) w Q := by
  subst ha
  intro F hF X hX
  have h1 := hX.own ho
  have h2 := kk h.2 F hF _ (hX.setA (w' := ws_a w c o k i.toNatClampNeg x) ho (by decide) rfl ⟨rfl, rfl, rfl⟩ (fun c' o' k' hne => w_u4_ne _ _ hne))
  refine ky_iast hd h1.2.1 ⟨hX.lo h1.1, ht, h.1⟩ ?_
  have e : w_a (ws_a w c o k i.toNatClampNeg x) c o k = upd (w_a w c o k) i.toNatClampNeg x := by
    show w_u4 w.2.2.2.1 c o k i.toNatClampNeg x c o k = _
    rw [w_u4_eq]
    rfl
  rw [e] at h2
  exact h2
theorem kz_bast {i x : Int32} {c o k : Nat} (hd : decode M.2.1 pc = .ok (.bastore, 1)) (ho : w_own w G ob 1 c o k) {a : Nat} (ha : w_aa G ob w c o k = a) (ht : (kx_tl V)[1]? = some .byte) {A : Prop} (h : kx_inb i (w_n w c o k) = true ∧ A) (kk : A → kz V G ob ot L M (pc + 1) lv st (ws_a w c o k i.toNatClampNeg (vp_nar .byte x)) Q) : kz V G ob ot L M pc lv (.int x :: .int i :: .ref a :: st) w Q := by
  subst ha
  intro F hF X hX
  have h1 := hX.own ho
  have h2 := kk h.2 F hF _ (hX.setA (w' := ws_a w c o k i.toNatClampNeg (vp_nar .byte x)) ho (by decide) rfl ⟨rfl, rfl, rfl⟩ (fun c' o' k' hne => w_u4_ne _ _ hne))
  refine ky_bast hd h1.2.1 ⟨hX.lo h1.1, h.1⟩ ht ?_
  have e : w_a (ws_a w c o k i.toNatClampNeg (vp_nar .byte x)) c o k = upd (w_a w c o k) i.toNatClampNeg (vp_nar .byte x) := by
    show w_u4 w.2.2.2.1 c o k i.toNatClampNeg (vp_nar .byte x) c o k = _
    rw [w_u4_eq]
    rfl
  rw [e] at h2
  exact h2
theorem kz_zast {i x : Int32} {c o k : Nat} (hd : decode M.2.1 pc = .ok (.bastore, 1)) (ho : w_own w G ob 2 c o k) {a : Nat} (ha : w_aa G ob w c o k = a) (ht : (kx_tl V)[2]? = some .boolean) {A : Prop} (h : kx_inb i (w_n w c o k) = true ∧ A) (kk : A → kz V G ob ot L M (pc + 1) lv st (ws_a w c o k i.toNatClampNeg (vp_nar .boolean x)) Q) : kz V G ob ot L M pc lv (.int x :: .int i :: .ref a :: st) w Q := by
  subst ha
  intro F hF X hX
  have h1 := hX.own ho
  have h2 := kk h.2 F hF _ (hX.setA (w' := ws_a w c o k i.toNatClampNeg (vp_nar .boolean x)) ho (by decide) rfl ⟨rfl, rfl, rfl⟩ (fun c' o' k' hne => w_u4_ne _ _ hne))
  refine ky_zast hd h1.2.1 ⟨hX.lo h1.1, h.1⟩ ht ?_
  have e : w_a (ws_a w c o k i.toNatClampNeg (vp_nar .boolean x)) c o k = upd (w_a w c o k) i.toNatClampNeg (vp_nar .boolean x) := by
    show w_u4 w.2.2.2.1 c o k i.toNatClampNeg (vp_nar .boolean x) c o k = _
    rw [w_u4_eq]
    rfl
  rw [e] at h2
  exact h2
theorem kz_gfiE {j c o k : Nat} {v : Int32} (hd : decode M.2.1 pc = .ok (.getfield j, 3)) (hf : wF V G M.1.cls j c k 0) (hl : G.2.2.2 c o = true ∨ w_l w ob c o) (hv : w_i w c o k = v) (kk : kz V G ob ot L M (pc + 3) lv (.int v :: st) w Q) : kz V G ob ot L M pc lv (.ref (w_adr ob c o) :: st) w Q := kz_gfi hd hf hl (hv ▸ kk)
/-- locals of which less is known -/
def kz_sub (lv : kx_L) : kx_L → Prop
  | [] => True
  | q :: r => kx_lk lv q.1 = some q.2 ∧ kz_sub lv r
end KZ
