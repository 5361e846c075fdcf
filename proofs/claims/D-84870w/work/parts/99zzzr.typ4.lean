/-! ===== TYPES, part 4: the twin: whether a constant has a value ===== -/
/-- the value alone may change -/
def FV (t t' : wS) : Prop := frm (pk 12 [24]) t t'
/-- what may change where types are told -/
def FT1 (t t' : wS) : Prop := frm (pk 12 [24, 64, 65, 73]) t t'
section TWV
variable {D : pD} {V : pV} {tn : Nat → Prop} {nu : pNz} {Y : yV} {kr : List Nat} {G : tG} {t t' t0 : wS} {l : Int32} {f n p k s L : Nat} {v : Int} {x : Int32} {C : Nat → Prop} {cs : List (ExT f)} {E' : zE} {Q : kx_Rs → wS → Prop} {R : (Nat → Prop) → ExT f → Prop}
theorem pk_f {j : Nat} (h : j ≠ 24 ∧ j ≠ 64 ∧ j ≠ 65 ∧ j ≠ 73) : pk 12 [24, 64, 65, 73] 12 j = false := by
  have e : ∀ a, j ≠ a → Nat.beq j a = false := fun a h => by
    cases c : Nat.beq j a with
    | false => rfl
    | true => exact absurd (Nat.eq_of_beq_eq_true c) h
  show (true && (Nat.beq j 24 || (Nat.beq j 64 || (Nat.beq j 65 || (Nat.beq j 73 || false))))) = false
  rw [e 24 h.1, e 64 h.2.1, e 65 h.2.2.1, e 73 h.2.2.2] <;> rfl
theorem FV.t1 (h : FV t t') : FT1 t t' := frm.sub h rfl
theorem TTs.fr (h : TTs D V tn Y kr G t) (hf : FT1 t t') : TTs D V tn Y kr G t' := by
  obtain ⟨⟨⟨h1, h1b⟩, h2⟩, ⟨h3, h4⟩, h5, h6⟩ := h
  have hk : ∀ j, tlr j = true → pk 12 [24, 64, 65, 73] 12 j = false := by
    intro j hj
    unfold tlr at hj
    simp only [Bool.or_eq_true, Bool.and_eq_true, Nat.ble_eq, Nat.beq_eq] at hj
    exact pk_f (by omega)
  refine ⟨⟨⟨fun j hj => by rw [hf.n]; exact h1 j hj, fun j hj => by rw [hf.n]; exact h1b j hj⟩, fun n hn j hj => (hf.a (hk j hj)).trans (h2 n hn j hj)⟩, ⟨by rw [hf.n]; exact h3, fun q hq => ?_⟩, fun n hn => (hf.a rfl).trans (h5 n hn), fun s hs => ?_⟩
  · obtain ⟨g1, g2, g3⟩ := h4 q hq
    exact ⟨by rw [hf.n]; exact g1, (hf.a rfl).trans g2, g3⟩
  · obtain ⟨g1, g2, g3, g4, g5, g6, g7, g8⟩ := h6 s hs
    exact ⟨g1, (hf.a rfl).trans g2, (hf.a rfl).trans g3, (hf.a rfl).trans g4, (hf.a rfl).trans g5, (hf.a rfl).trans g6, (hf.a rfl).trans g7, g8⟩
theorem TTs.fv (h : TTs D V tn Y kr G t) (hf : FV t t') : TTs D V tn Y kr G t' := h.fr hf.t1
theorem FV.i : FV t (ws_i t 12 0 24 x) := frm_i rfl
theorem FV.ii (h : FV t t') : FV t (ws_i t' 12 0 24 x) := frm.tr h (frm_i rfl)
theorem w24 : w_i (ws_i t 12 0 24 x) 12 0 24 = x := by rw [Rii, if_pos ⟨rfl, rfl, rfl⟩]
theorem cvb_0 : cvb 0 x = false := by simp [cvb]
theorem cvb_1 : cvb 1 x = decide (x < 0 ∨ 255 < x) := by simp [cvb]
theorem cvb_2 : cvb 2 x = decide (x ≠ 0 ∧ x ≠ 1) := by simp [cvb]
/-- numbers, characters, truths, constant names -/
theorem t_cns (hT : TTs D V tn Y kr G t) {e : ExT (f + 1)} (h : RX D V tn nu Y kr l (f + 1) C e) (hk : xk e = 50 ∨ xk e = 51 ∨ xk e = 53 ∨ xk e = 54 ∨ xk e = 55 ∨ xk e = 56 ∨ xk e = 60) (hc : isC D G (f + 1) e = true) (hL : 100 ≤ L) (hq : ∀ x, hV D G (f + 1) e = some x → Q (.inl (some (.int x))) t) : zw E' L kt_M377 [.ref (w_adr E'.2.1 12 0), .int (i_ (xn e))] t Q := by
  obtain ⟨n, p, k, v, s, cs, rfl⟩ := e.el
  obtain ⟨h26, hK⟩ := RX.mk.mp h
  obtain ⟨hn, h14⟩ := hK.ht
  have e26 : w_a t 12 0 26 n = i_ k := (hT.r hn rfl).trans h26
  have ei := i_nat' (show n < 2147483648 by omega)
  rw [hV_mk] at hq
  rw [isC_mk] at hc
  have hk : k = 50 ∨ k = 51 ∨ k = 53 ∨ k = 54 ∨ k = 55 ∨ k = 56 ∨ k = 60 := hk
  show zw E' L kt_M377 [.ref (w_adr E'.2.1 12 0), .int (i_ n)] t Q
  refine zt_X13_constant_p0 (by omega) ?_
  simp only [zb_X13_constant_p0, zb_X13_constant_p347, zb_X13_constant_p175, zb_X13_constant_p224, ei, e26]
  refine ⟨hT.i h14 rfl, ?_⟩
  rcases hk with e | e | e | e | e | e | e <;> subst e <;> simp (decide := true) only [if_true, if_false]
  · obtain ⟨-, -, -, -, h28⟩ := hK
    rw [(hT.r hn rfl).trans h28]
    exact ⟨hT.i h14 rfl, hq _ rfl⟩
  · obtain ⟨-, -, -, -, h28, -⟩ := hK
    rw [(hT.r hn rfl).trans h28]
    exact ⟨hT.i h14 rfl, hq _ rfl⟩
  · exact hq _ rfl
  · exact hq _ rfl
  · exact hq _ rfl
  · exact hq _ rfl
  · obtain ⟨-, -, hs, ⟨-, h28, rfl⟩ | ⟨a, rfl, -⟩⟩ := hK
    · obtain ⟨g1, g2, c, -, e46, eg⟩ := hT.sm hn hs
      obtain ⟨-, -, -, -, -, e69, -, -⟩ := hT.2.2.2 s hs.1
      have hc : (decide (G.2.2.2.2 s = 2) && G.2.2.1 s) = true := hc
      rw [Bool.and_eq_true, decide_eq_true_eq, eg] at hc
      simp only [g2, i_nat' (show s < 2147483648 by omega), e46, e69, hc.1]
      refine ⟨hT.i h14 rfl, hT.sy g1 rfl, ?_⟩
      rw [if_pos (by decide)]
      exact ⟨by rw [hT.2.1.1]; exact i_inb' (by omega) (by omega), hq _ rfl⟩
    · exact absurd hc Bool.false_ne_true
theorem t_hvl (hL : 100 ≤ L) (hn : tn n) (h14 : n < 14000) (h29 : V.2.2.1 29 n = i_ v) (hv : v = 2 ∨ v = 19) {R1 : ExT f → Prop} (hR : ∀ e, R1 e → tn (xn e) ∧ xn e < 14000) {c : ExT f → Bool} {g : ExT f → Option Int32} (hg : ∀ e (t : wS) (Q : kx_Rs → wS → Prop), TTs D V tn Y kr G t → R1 e → c e = true → (∀ x t', g e = some x → FV t t' → w_i t' 12 0 24 = x → Q (.inl (some (.int 1))) t') → (∀ t', g e = none → FV t t' → Q (.inl (some (.int 0))) t') → zw E' (L - 23) kt_M428 [.ref (w_adr E'.2.1 12 0), .int (i_ (xn e))] t Q) : ∀ {ls : List (ExT f)} {b : Bool} {t : wS}, TTs D V tn Y kr G t → RXs V R1 ls → ls.all c = true → (∀ x t', hVs g v b ls = some x → FV t t' → w_i t' 12 0 24 = x → Q (.inl (some (.int 1))) t') → (∀ t', hVs g v b ls = none → FV t t' → Q (.inl (some (.int 0))) t') → zL_X13_hasValue_p313 E' L Q (i_ n) (bI b) (hdn ls) t
  | [], b, t, hT, _, _, h1, _ => by
    refine zt_X13_hasValue_p313 (by omega) ?_
    simp only [zb_X13_hasValue_p313, zb_X13_hasValue_p395]
    rw [if_pos hdn_lt]
    cases b with
    | true =>
      rw [if_neg (show ¬ bI true = 0 by decide)]
      exact h1 _ _ rfl FV.i w24
    | false =>
      rw [if_pos (show bI false = 0 from rfl)]
      exact h1 _ _ rfl FV.i w24
  | e :: r, b, t, hT, h, hc, h1, h0 => by
    obtain ⟨-, hr, ⟨-, h2⟩, h3⟩ := h
    obtain ⟨hne, h14e⟩ := hR e hr
    rw [List.all_cons, Bool.and_eq_true] at hc
    refine zt_X13_hasValue_p313 (by omega) ?_
    simp only [zb_X13_hasValue_p313, zb_X13_hasValue_p369, zb_X13_hasValue_p353, zb_X13_hasValue_p374, hdn_c, i_nat' (show xn e < 2147483648 by omega), i_nat' (show n < 2147483648 by omega)]
    rw [if_neg (i_nn (by omega))]
    refine hg e t _ hT hr hc.1 (fun x t' ex hf hx => fun _ => ?_) (fun t' ex hf => fun _ => ?_)
    · have hT' := hT.fv hf
      have e29 : w_a t' 12 0 29 n = i_ v := (hT'.r hn rfl).trans h29
      have nx : ∀ b' : Bool, (if v = 2 then b && decide (x = 1) else b || decide (x = 1)) = b' → kx_inb (i_ (xn e)) (w_n t' 12 0 32) = true ∧ zL_X13_hasValue_p313 E' L Q (i_ n) (bI b') (w_a t' 12 0 32 (xn e)) t' := fun b' hb => by
        have hh : hVs g v b (e :: r) = hVs g v b' r := by
          show (g e).bind _ = _
          rw [ex]
          show hVs g v (if v = 2 then b && decide (x = 1) else b || decide (x = 1)) r = _
          rw [hb]
        refine ⟨hT'.i h14e rfl, ?_⟩
        rw [hT'.r hne rfl, h2]
        exact t_hvl hL hn h14 h29 hv hR hg hT' h3 hc.2 (fun y t'' ey hf' hy => h1 y t'' (hh.trans ey) (frm.tr hf hf') hy) (fun t'' ey hf' => h0 t'' (hh.trans ey) (frm.tr hf hf'))
      rw [if_pos (show ¬ (1 : Int32) = 0 by decide)]
      simp only [e29, hx]
      refine ⟨hT'.i h14 rfl, ?_⟩
      rcases hv with e2 | e2 <;> subst e2
      · rw [if_neg (show ¬ ¬ (i_ 2 : Int32) = 2 by decide)]
        rw [if_pos (show (2 : Int) = 2 from rfl)] at nx
        cases b with
        | false =>
          rw [if_pos (show bI false = 0 from rfl)]
          exact nx false rfl
        | true =>
          rw [if_neg (show ¬ bI true = 0 by decide)]
          by_cases c1 : x = 1
          · rw [if_neg (fun z => z c1)]
            exact nx true (by rw [decide_eq_true c1] <;> rfl)
          · rw [if_pos c1]
            exact nx false (by rw [decide_eq_false c1] <;> rfl)
      · rw [if_pos (show ¬ (i_ 19 : Int32) = 2 by decide)]
        rw [if_neg (show ¬ (19 : Int) = 2 by decide)] at nx
        cases b with
        | true =>
          rw [if_pos (show ¬ bI true = 0 by decide)]
          exact nx true rfl
        | false =>
          rw [if_neg (show ¬ ¬ bI false = 0 from fun z => z rfl)]
          by_cases c1 : x = 1
          · rw [if_neg (fun z => z c1)]
            exact nx true (by rw [decide_eq_true c1] <;> rfl)
          · rw [if_pos c1]
            exact nx false (by rw [decide_eq_false c1] <;> rfl)
    · rw [if_neg (show ¬ ¬ (0 : Int32) = 0 from fun z => z rfl)]
      exact h0 t' (by show (g e).bind _ = _; rw [ex] <;> rfl) hf
theorem t_hv : ∀ {f : Nat} {C : Nat → Prop} {e : ExT f} {L : Nat} {Q : kx_Rs → wS → Prop} {t : wS}, TTs D V tn Y kr G t → RX D V tn nu Y kr l f C e → isC D G f e = true → wd f e + 200 ≤ L → (∀ x t', hV D G f e = some x → FV t t' → w_i t' 12 0 24 = x → Q (.inl (some (.int 1))) t') → (∀ t', hV D G f e = none → FV t t' → Q (.inl (some (.int 0))) t') → zw E' L kt_M428 [.ref (w_adr E'.2.1 12 0), .int (i_ (xn e))] t Q
  | 0, _, _, _, _, _, _, h, _, _, _, _ => h.elim
  | f + 1, C, e, L, Q, t, hT, h, hc, hL, h1, h0 => by
    have hrx := h
    have hcc := hc
    obtain ⟨n, p, k, v, s, cs, rfl⟩ := e.el
    obtain ⟨h26, hK⟩ := RX.mk.mp h
    obtain ⟨hn, h14⟩ := hK.ht
    have hw := hK.w24
    have e26 : w_a t 12 0 26 n = i_ k := (hT.r hn rfl).trans h26
    have ei := i_nat' (show n < 2147483648 by omega)
    rw [isC_mk] at hc
    show zw E' L kt_M428 [.ref (w_adr E'.2.1 12 0), .int (i_ n)] t Q
    refine zt_X13_hasValue_p0 (by omega) ?_
    simp only [zb_X13_hasValue_p0, zb_X13_hasValue_p92, zb_X13_hasValue_p117, zb_X13_hasValue_p121, zb_X13_hasValue_p122, zb_X13_hasValue_p195, zb_X13_hasValue_p197, zb_X13_hasValue_p267, zb_X13_hasValue_p305, ei, e26]
    refine ⟨hT.i h14 rfl, ?_⟩
    have leaf : (k = 50 ∨ k = 51 ∨ k = 53 ∨ k = 54 ∨ k = 55 ∨ k = 56 ∨ k = 60) → zw E' (L - 24) kt_M377 [.ref (w_adr E'.2.1 12 0), .int (i_ n)] t (wk1 (fun v18 w17 => wle t w17 → Q (.inl (some (.int 1))) (ws_i w17 12 0 24 v18)) (fun e w => Q (.inr e) w)) := fun hk => t_cns hT hrx hk hcc (by omega) (fun x hx => fun _ => h1 x _ hx FV.i w24)
    rcases hK.ks with e | e | e | e | e | e | e | e | e | e | e | e | e | e | e <;> subst e <;> simp (decide := true) only [if_true, if_false]
    · exact leaf (by decide)
    · exact leaf (by decide)
    · exact absurd hc Bool.false_ne_true
    · exact leaf (by decide)
    · exact leaf (by decide)
    · exact leaf (by decide)
    · exact leaf (by decide)
    · obtain ⟨-, -, a, rfl, ⟨hs3, -, h29⟩, ⟨-, h28, -⟩, ha⟩ := hK
      have hwa := hw a List.mem_cons_self
      have e28 : w_a t 12 0 28 n = i_ (xn a) := (hT.r hn rfl).trans h28
      have hca : (isC D G f a && true) = true := hc
      rw [Bool.and_true] at hca
      have k1 : ∀ x t', hV D G f a = some x → cvb s x = false → FV t t' → w_i t' 12 0 24 = x → Q (.inl (some (.int 1))) t' := fun x t' e c hf hx => h1 x t' (by
        show (hV D G f a).bind (fun x => if cvb s x then none else some x) = _
        rw [e]
        show (if cvb s x then none else some x) = _
        rw [c] <;> rfl) hf hx
      have k0 : ∀ x t', hV D G f a = some x → cvb s x = true → FV t t' → Q (.inl (some (.int 0))) t' := fun x t' e c hf => h0 t' (by
        show (hV D G f a).bind (fun x => if cvb s x then none else some x) = _
        rw [e]
        show (if cvb s x then none else some x) = _
        rw [c] <;> rfl) hf
      simp only [e28]
      refine ⟨hT.i h14 rfl, t_hv hT ha hca (by omega) (fun x t' e hf hx => fun _ => ?_) (fun t' e hf => fun _ => ?_)⟩
      · have hT' := hT.fv hf
        have e29 : w_a t' 12 0 29 n = i_ s := (hT'.r hn rfl).trans h29
        rw [if_neg (show ¬ (1 : Int32) = 0 by decide)]
        simp only [e29, hx]
        refine ⟨hT'.i h14 rfl, ?_⟩
        rcases (show s = 0 ∨ s = 1 ∨ s = 2 by omega) with e' | e' | e' <;> subst e' <;> simp (decide := true) only [if_true, if_false]
        · exact ⟨hT'.i h14 rfl, by decide, k1 x t' e cvb_0 hf hx⟩
        · by_cases c1 : x < 0
          · rw [if_pos c1]
            exact ⟨by decide, k0 x t' e (by rw [cvb_1]; exact decide_eq_true (.inl c1)) hf⟩
          · rw [if_neg c1]
            by_cases c2 : 255 < x
            · rw [if_pos c2]
              exact ⟨by decide, k0 x t' e (by rw [cvb_1]; exact decide_eq_true (.inr c2)) hf⟩
            · rw [if_neg c2]
              exact ⟨hT'.i h14 rfl, by decide, k1 x t' e (by rw [cvb_1]; exact decide_eq_false (fun z => z.elim c1 c2)) hf hx⟩
        · refine ⟨hT'.i h14 rfl, ?_⟩
          by_cases c1 : x = 0
          · rw [if_pos c1]
            exact ⟨by decide, k1 x t' e (by rw [cvb_2]; exact decide_eq_false (fun z => z.1 c1)) hf hx⟩
          · rw [if_neg c1]
            by_cases c2 : x = 1
            · rw [if_neg (fun z => z c2)]
              exact ⟨by decide, k1 x t' e (by rw [cvb_2]; exact decide_eq_false (fun z => z.2 c2)) hf hx⟩
            · rw [if_pos c2]
              exact ⟨by decide, k0 x t' e (by rw [cvb_2]; exact decide_eq_true ⟨c1, c2⟩) hf⟩
      · rw [if_pos (show (0 : Int32) = 0 from rfl)]
        exact ⟨by decide, h0 t' (by
          show (hV D G f a).bind (fun x => if cvb s x then none else some x) = _
          rw [e] <;> rfl) hf⟩
    · obtain ⟨-, -, a, rfl, -, h28, ha⟩ := hK
      have hwa := hw a List.mem_cons_self
      have e28 : w_a t 12 0 28 n = i_ (xn a) := (hT.r hn rfl).trans h28
      have hca : isC D G f a = true := hc
      simp only [e28]
      exact ⟨hT.i h14 rfl, t_hv hT ha hca (by omega) (fun x t' e hf hx => fun _ => ⟨by decide, h1 x t' e hf hx⟩) (fun t' e hf => fun _ => ⟨by decide, h0 t' e hf⟩)⟩
    · exact absurd hc Bool.false_ne_true
    · exact leaf (by decide)
    · exact absurd hc Bool.false_ne_true
    · obtain ⟨-, -, ⟨-, -, -, h29, hu⟩, a, rfl, ⟨-, h28, -⟩, ha⟩ := hK
      have hwa := hw a List.mem_cons_self
      have e28 : w_a t 12 0 28 n = i_ (xn a) := (hT.r hn rfl).trans h28
      have e29 : w_a t 12 0 29 n = i_ v := (hT.r hn rfl).trans h29
      have ev : ∀ j : Int, -1000 ≤ j → j ≤ 1000 → ((i_ v : Int32) = i_ j) = (v = j) := fun j a b => i_eqk (bUn_r hu) a b
      have e27 : ((i_ v : Int32) = 27) = (v = 27) := ev 27 (by decide) (by decide)
      have hc : (if v = 27 then !decide (mnyE D G f a < 0) else isC D G f a) = true := hc
      simp only [e28, e29, e27]
      refine ⟨hT.i h14 rfl, ?_⟩
      by_cases c : v = 27
      · rw [if_neg (fun z => z c)]
        exact ⟨hT.i h14 rfl, t_many hT ha (by omega) (fun _ => h1 (mnyE D G f a) _ (by show (if v = 27 then some (mnyE D G f a) else _) = _; rw [if_pos c]) FV.i w24)⟩
      · rw [if_pos c]
        rw [if_neg c] at hc
        have hh : hV D G (f + 1) (xmk (n, p, 62, v, s) [a]) = (hV D G f a).bind (fun x => if v = 58 ∧ x = -2147483648 then none else some (wv1 v x)) := by
          show (if v = 27 then some (mnyE D G f a) else _) = _
          rw [if_neg c] <;> rfl
        refine ⟨hT.i h14 rfl, t_hv hT ha hc (by omega) (fun x t' e hf hx => fun _ => ?_) (fun t' e hf => fun _ => ?_)⟩
        · have hT' := hT.fv hf
          have e29' : w_a t' 12 0 29 n = i_ v := (hT'.r hn rfl).trans h29
          rw [e] at hh
          have hh : hV D G (f + 1) (xmk (n, p, 62, v, s) [a]) = if v = 58 ∧ x = -2147483648 then none else some (wv1 v x) := hh
          have e58 : ((i_ v : Int32) = 58) = (v = 58) := ev 58 (by decide) (by decide)
          rw [if_neg (show ¬ (1 : Int32) = 0 by decide)]
          simp only [e29', hx, e58]
          refine ⟨hT'.i h14 rfl, ?_⟩
          have k1 : ¬ (v = 58 ∧ x = -2147483648) → kx_inb (i_ n) (w_n t' 12 0 29) = true ∧ zw E' (L - 22) kt_M536 [.ref (w_adr E'.2.1 12 0), .int (i_ v), .int x] t' (wk1 (fun v2 w1 => wle t' w1 → Q (.inl (some (.int 1))) (ws_i w1 12 0 24 v2)) (fun e w => Q (.inr e) w)) := fun hz => by
            rw [if_neg hz] at hh
            exact ⟨hT'.i h14 rfl, t_sing hu c hz (by omega) (fun _ => h1 (wv1 v x) _ hh hf.ii w24)⟩
          by_cases c1 : v = 58
          · rw [if_neg (fun z => z c1)]
            by_cases c2 : x = -2147483648
            · rw [if_neg (fun z => z c2)]
              rw [if_pos ⟨c1, c2⟩] at hh
              exact h0 t' hh hf
            · rw [if_pos c2]
              exact k1 (fun z => c2 z.2)
          · rw [if_pos c1]
            exact k1 (fun z => c1 z.1)
        · rw [e] at hh
          rw [if_pos (show (0 : Int32) = 0 from rfl)]
          exact h0 t' hh hf
    · obtain ⟨-, -, ⟨-, -, -, h29, hu⟩, a, b, rfl, ⟨⟨-, h28, -⟩, ⟨-, h30, -⟩⟩, ha, hb⟩ := hK
      have hwa := hw a List.mem_cons_self
      have hwb := hw b (List.mem_cons_of_mem _ List.mem_cons_self)
      have e28 : w_a t 12 0 28 n = i_ (xn a) := (hT.r hn rfl).trans h28
      have hc : (isC D G f a && (isC D G f b && true)) = true := hc
      rw [Bool.and_true, Bool.and_eq_true] at hc
      have hh : hV D G (f + 1) (xmk (n, p, 63, v, s) [a, b]) = (hV D G f a).bind (fun l => (hV D G f b).bind (fun r => if ok2 v l r then some (wv2 v l r) else none)) := rfl
      simp only [e28]
      refine ⟨hT.i h14 rfl, t_hv hT ha hc.1 (by omega) (fun x t' e hf hx => fun _ => ?_) (fun t' e hf => fun _ => ?_)⟩
      · have hT' := hT.fv hf
        have e30 : w_a t' 12 0 30 n = i_ (xn b) := (hT'.r hn rfl).trans h30
        rw [e] at hh
        have hh : hV D G (f + 1) (xmk (n, p, 63, v, s) [a, b]) = (hV D G f b).bind (fun r => if ok2 v x r then some (wv2 v x r) else none) := hh
        rw [if_pos (show ¬ (1 : Int32) = 0 by decide)]
        simp only [e30, hx]
        refine ⟨hT'.i h14 rfl, t_hv hT' hb hc.2 (by omega) (fun y t'' e' hf' hy => fun _ => ?_) (fun t'' e' hf' => fun _ => ?_)⟩
        · have hT'' := hT'.fv hf'
          have e29 : w_a t'' 12 0 29 n = i_ v := (hT''.r hn rfl).trans h29
          rw [e'] at hh
          have hh : hV D G (f + 1) (xmk (n, p, 63, v, s) [a, b]) = if ok2 v x y then some (wv2 v x y) else none := hh
          rw [if_neg (show ¬ (1 : Int32) = 0 by decide)]
          simp only [e29, hy]
          refine ⟨hT''.i h14 rfl, t_isw hu (by omega) (fun _ => ?_)⟩
          by_cases c : ok2 v x y = true
          · rw [if_pos c] at hh
            rw [c, if_pos (show ¬ bI true = 0 by decide), e29, hy]
            exact ⟨hT''.i h14 rfl, t_work hu c (by omega) (fun _ => h1 (wv2 v x y) _ hh (FV.ii (frm.tr hf hf')) w24)⟩
          · rw [if_neg c] at hh
            rw [Bool.eq_false_iff.mpr c, if_neg (show ¬ ¬ bI false = 0 from fun z => z rfl)]
            exact h0 t'' hh (frm.tr hf hf')
        · rw [e'] at hh
          rw [if_pos (show (0 : Int32) = 0 from rfl)]
          exact h0 t'' hh (frm.tr hf hf')
      · rw [e] at hh
        rw [if_neg (show ¬ ¬ (0 : Int32) = 0 from fun z => z rfl)]
        exact h0 t' hh hf
    · obtain ⟨-, -, ⟨hv, -, h29⟩, ⟨⟨-, h28⟩, -⟩, ha⟩ := hK
      have e28 : w_a t 12 0 28 n = hdn cs := (hT.r hn rfl).trans h28
      have e29 : w_a t 12 0 29 n = i_ v := (hT.r hn rfl).trans h29
      have hc : cs.all (isC D G f) = true := hc
      have run : ∀ b : Bool, decide (v = 2) = b → zL_X13_hasValue_p313 E' L Q (i_ n) (bI b) (hdn cs) t := fun b hb => by
        refine t_hvl (c := isC D G f) (g := hV D G f) (by omega) hn h14 h29 hv (fun e he => he.1.ht) (fun e t Q hT he hce k1 k0 => t_hv hT he.1 hce (by have := he.2; omega) k1 k0) hT (ha.and hw) hc (fun x t' ex => h1 x t' ?_) (fun t' ex => h0 t' ?_)
        · show hVs (hV D G f) v (decide (v = 2)) cs = _
          rw [hb]
          exact ex
        · show hVs (hV D G f) v (decide (v = 2)) cs = _
          rw [hb]
          exact ex
      simp only [e28, e29]
      refine ⟨hT.i h14 rfl, ?_⟩
      rcases hv with e | e <;> subst e
      · rw [if_neg (show ¬ ¬ (i_ 2 : Int32) = 2 by decide)]
        exact ⟨hT.i h14 rfl, run true (by decide)⟩
      · rw [if_pos (show ¬ (i_ 19 : Int32) = 2 by decide)]
        exact ⟨hT.i h14 rfl, run false (by decide)⟩
end TWV
