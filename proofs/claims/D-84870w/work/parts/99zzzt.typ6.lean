/-! ===== TYPES, part 6: the twin tells types of arguments ===== -/
section TYG
variable {D : pD} {V : pV} {tn : Nat → Prop} {nu : pNz} {Y : yV} {kr : List Nat} {G : tG} {F : tF} {t t' t'' : wS} {l x y w : Int32} {f n m p k s L : Nat} {v T T' : Int} {C : Nat → Prop} {cs : List (ExT f)} {E' : zE} {Q : kx_Rs → wS → Prop} {R : (Nat → Prop) → ExT f → Prop} {r : tR} {X : String → wS → Prop}
theorem RX.el : ∀ {f : Nat} {C : Nat → Prop} {e : ExT f}, RX D V tn nu Y kr l f C e → xk e = 60 → SYu Y kr C (xn e) (xp e) (xs e)
  | 0, _, _, h, _ => h.elim
  | _ + 1, _, _, h, hk => by
    have h2 := h.2
    rw [hk] at h2
    exact h2.2.2.1
/-- whether a VAL may be that -/
def okV (G : tG) (o : Option Nat) : Bool := match o with | some s => !decide (G.2.2.2.2 s = 3) | none => true
/-- whether a place is one of this kind -/
def okP (G : tG) (ch : Bool) (o : Option Nat) : Bool := match o with | some s => decide (G.2.2.2.2 s = (if ch then 3 else 1)) | none => false
theorem k60 (h : k ≤ 64) : ((i_ k : Int32) = 60) = (k = 60) := propext ⟨fun e => by
  rw [show (60 : Int32) = i_ 60 from rfl] at e
  have := (i_eq (by omega) (by omega)).mp e
  omega, fun e => by rw [e]; rfl⟩
theorem isEl_t {e : ExT f} (h : xk e = 60) : isEl e = some (xs e) := if_pos h
theorem isEl_f {e : ExT f} (h : ¬ xk e = 60) : isEl e = none := if_neg h
theorem t_a54 {e : ExT f} (hC : TYC D V tn Y kr G F t) (hx : RX D V tn nu Y kr l f C e) (h26 : w_a t 12 0 26 (xn e) = i_ (xk e)) {x3 x4 x5 ar : Int32} (fin : ∀ g : Bool, okV G (isEl e) = g → zb_X13_typeArgument_p174 E' L Q (i_ (xn e)) x3 x4 x5 ar (bI g) t) : zb_X13_typeArgument_p54 E' L Q (i_ (xn e)) (i_ m) x3 x4 x5 1 ar t := by
  obtain ⟨hn, h14⟩ := hx.ht
  unfold zb_X13_typeArgument_p54
  simp only [i_nat' (show xn e < 2147483648 by omega), h26, k60 hx.k26.2]
  rw [if_pos (show ¬ (1 : Int32) = 0 by decide)]
  refine ⟨hC.1.i h14 rfl, ?_⟩
  by_cases hk : xk e = 60
  · rw [if_neg (fun z => z hk)]
    obtain ⟨g1, g2, c, -, e46, eg⟩ := hC.1.sm hn (hx.el hk)
    simp only [g2, i_nat' (show xs e < 2147483648 by omega), e46]
    refine ⟨hC.1.i h14 rfl, ?_⟩
    rw [if_neg (i_nn (by omega))]
    refine ⟨hC.1.i h14 rfl, hC.1.sy g1 rfl, ?_⟩
    by_cases c3 : (i_ c : Int32) = 3
    · rw [if_neg (fun z => z c3)]
      exact fin false (by rw [isEl_t hk]; show (!decide (G.2.2.2.2 (xs e) = 3)) = false; rw [eg, decide_eq_true c3] <;> rfl)
    · rw [if_pos c3]
      exact fin true (by rw [isEl_t hk]; show (!decide (G.2.2.2.2 (xs e) = 3)) = true; rw [eg, decide_eq_false c3] <;> rfl)
  · rw [if_pos hk]
    exact fin true (by rw [isEl_f hk] <;> rfl)
theorem t_a80 {e : ExT f} (hC : TYC D V tn Y kr G F t) (hx : RX D V tn nu Y kr l f C e) (h26 : w_a t 12 0 26 (xn e) = i_ (xk e)) {x3 x4 x5 ar : Int32} {ch : Bool} (fin : ∀ g : Bool, okP G ch (isEl e) = g → zb_X13_typeArgument_p174 E' L Q (i_ (xn e)) x3 x4 x5 ar (bI g) t) : zb_X13_typeArgument_p80 E' L Q (i_ (xn e)) x3 x4 x5 ar (bI ch) t := by
  obtain ⟨hn, h14⟩ := hx.ht
  unfold zb_X13_typeArgument_p80 zb_X13_typeArgument_p126 zb_X13_typeArgument_p130 zb_X13_typeArgument_p123 zb_X13_typeArgument_p126 zb_X13_typeArgument_p130 zb_X13_typeArgument_p131
  simp only [i_nat' (show xn e < 2147483648 by omega), h26, k60 hx.k26.2]
  refine ⟨hC.1.i h14 rfl, ?_⟩
  by_cases hk : xk e = 60
  · rw [if_neg (fun z => z hk)]
    obtain ⟨g1, g2, c, -, e46, eg⟩ := hC.1.sm hn (hx.el hk)
    simp only [g2, i_nat' (show xs e < 2147483648 by omega), e46]
    refine ⟨hC.1.i h14 rfl, ?_⟩
    rw [if_neg (i_nn (by omega))]
    refine ⟨hC.1.i h14 rfl, hC.1.sy g1 rfl, ?_⟩
    have fn : ∀ z : Int32, (if ch then (3 : Int32) else 1) = z → if ¬ (i_ c : Int32) = z then zb_X13_typeArgument_p174 E' L Q (i_ (xn e)) x3 x4 x5 ar 0 t else zb_X13_typeArgument_p174 E' L Q (i_ (xn e)) x3 x4 x5 ar 1 t := fun z hz => by
      by_cases c3 : (i_ c : Int32) = z
      · rw [if_neg (fun q => q c3)]
        exact fin true (by rw [isEl_t hk]; show decide (G.2.2.2.2 (xs e) = (if ch then 3 else 1)) = true; rw [eg, hz, decide_eq_true c3])
      · rw [if_pos c3]
        exact fin false (by rw [isEl_t hk]; show decide (G.2.2.2.2 (xs e) = (if ch then 3 else 1)) = false; rw [eg, hz, decide_eq_false c3])
    cases ch with
    | false =>
      rw [if_pos (show bI false = 0 from rfl)]
      exact fn 1 rfl
    | true =>
      rw [if_neg (show ¬ bI true = 0 by decide)]
      exact fn 3 rfl
  · rw [if_pos hk]
    exact fin false (by rw [isEl_f hk] <;> rfl)
/-- an argument -/
theorem t_arg (I : TYI D V tn nu Y kr G F l E' f) {e : ExT f} (hC : TYC D V tn Y kr G F t) (hx : RX D V tn nu Y kr l f C e) (hL : wd f e + 325 ≤ L) (h : TYR t T t') {sf : Nat} {va ar ch : Bool} (hm : tn m ∧ m < 14000) (h31 : Y.1 m = i_ sf) (hf : sf < 6100) (h47 : w_a t 12 0 47 sf = G.1 sf) (h34 : V.2.2.1 34 m = i_ ((if ar then 1 else 0) + (if ch then 2 else 0) + (if va then 4 else 0) : Nat)) (hq : ∀ t'', TYR t (min T (arT G (16 * l.toInt) (sf, va, ar, ch) (isEl e) (tyE D G F (16 * l.toInt) f e))) t'' → Q (.inl none) t'') : zw E' L kt_M567 [.ref (w_adr E'.2.1 12 0), .int (i_ (xn e)), .int (i_ m)] t' Q := by
  have hn := hx.ht
  have hC' := hC.mv h
  refine zt_X13_typeArgument_p0 (by omega) ?_
  have e31 : w_a t' 12 0 31 m = i_ sf := (hC'.1.2.2.1 m hm.1).trans h31
  simp only [zb_X13_typeArgument_p0, zb_X13_typeArgument_p36, i_nat' (show m < 2147483648 by omega), e31]
  refine ⟨hC'.1.i hm.2 rfl, I C e _ _ _ hC' hx (by omega) (fun t1 g1 g73 => fun _ => ?_)⟩
  have g2 := h.tr g1
  have hC1 := hC.mv g2
  have e34 := (hC1.1.r hm.1 (j := 34) rfl).trans h34
  have e26 : w_a t1 12 0 26 (xn e) = i_ (xk e) := (hC1.1.r hn.1 rfl).trans hx.k26.1
  have e47 : w_a t1 12 0 47 sf = G.1 sf := (g2.1.a rfl).trans h47
  have fin : ∀ g : Bool, (if va then okV G (isEl e) else okP G ch (isEl e)) = g → zb_X13_typeArgument_p174 E' L Q (i_ (xn e)) (i_ sf) (tyE D G F (16 * l.toInt) f e).1 (tyE D G F (16 * l.toInt) f e).2.1 (bI ar) (bI g) t1 := fun g hg => by
    refine t_a174 hC hn hx.hl g2 hf e47 (by omega) (fun t'' h2 => hq t'' (h2.e ?_))
    have ea : arT G (16 * l.toInt) (sf, va, ar, ch) (isEl e) (tyE D G F (16 * l.toInt) f e) = if g = true ∧ ((tyE D G F (16 * l.toInt) f e).1 = -1 ∨ G.1 sf = -1 ∨ (tyE D G F (16 * l.toInt) f e).1 = G.1 sf) ∧ ((tyE D G F (16 * l.toInt) f e).1 = -1 ∨ ((tyE D G F (16 * l.toInt) f e).2.1 = -1 ↔ ar = false)) then (tyE D G F (16 * l.toInt) f e).2.2 else min (tyE D G F (16 * l.toInt) f e).2.2 (16 * l.toInt + 7) := by
      rw [← hg]
      rfl
    rw [ea]
    split <;> omega
  simp only [e34, g73]
  have i34 : kx_inb (i_ m) (w_n t1 12 0 34) = true := hC1.1.i hm.2 rfl
  refine ⟨i34, ?_⟩
  cases va with
  | true =>
    have hv : ∀ a c : Bool, ¬ ((i_ ((if a then 1 else 0) + (if c then 2 else 0) + (if true then 4 else 0) : Nat) : Int32) &&& 4) = 0 := by decide
    rw [if_neg (hv ar ch)]
    refine ⟨i34, ?_⟩
    cases ar with
    | true =>
      have ha : ∀ c : Bool, ¬ ((i_ ((if true then 1 else 0) + (if c then 2 else 0) + (if true then 4 else 0) : Nat) : Int32) &&& 1) = 0 := by decide
      rw [if_neg (ha ch)]
      exact t_a54 hC1 hx e26 (fun g hg => fin g hg)
    | false =>
      have ha : ∀ c : Bool, ((i_ ((if false then 1 else 0) + (if c then 2 else 0) + (if true then 4 else 0) : Nat) : Int32) &&& 1) = 0 := by decide
      rw [if_pos (ha ch)]
      exact t_a54 hC1 hx e26 (fun g hg => fin g hg)
  | false =>
    have hv : ∀ a c : Bool, ((i_ ((if a then 1 else 0) + (if c then 2 else 0) + (if false then 4 else 0) : Nat) : Int32) &&& 4) = 0 := by decide
    rw [if_pos (hv ar ch)]
    refine ⟨i34, ?_⟩
    have rest : zb_X13_typeArgument_p54 E' L Q (i_ (xn e)) (i_ m) (i_ sf) (tyE D G F (16 * l.toInt) f e).1 (tyE D G F (16 * l.toInt) f e).2.1 0 (bI ar) t1 := by
      unfold zb_X13_typeArgument_p54
      rw [if_neg (show ¬ ¬ (0 : Int32) = 0 from fun z => z rfl), i_nat' (show m < 2147483648 by omega), e34]
      refine ⟨i34, ?_⟩
      cases ch with
      | true =>
        have hc : ∀ a : Bool, ¬ ((i_ ((if a then 1 else 0) + (if true then 2 else 0) + (if false then 4 else 0) : Nat) : Int32) &&& 2) = 0 := by decide
        rw [if_neg (hc ar)]
        exact t_a80 (ch := true) hC1 hx e26 (fun g hg => fin g hg)
      | false =>
        have hc : ∀ a : Bool, ((i_ ((if a then 1 else 0) + (if false then 2 else 0) + (if false then 4 else 0) : Nat) : Int32) &&& 2) = 0 := by decide
        rw [if_pos (hc ar)]
        exact t_a80 (ch := false) hC1 hx e26 (fun g hg => fin g hg)
    cases ar with
    | true =>
      have ha : ∀ c : Bool, ¬ ((i_ ((if true then 1 else 0) + (if c then 2 else 0) + (if false then 4 else 0) : Nat) : Int32) &&& 1) = 0 := by decide
      rw [if_neg (ha ch)]
      exact rest
    | false =>
      have ha : ∀ c : Bool, ((i_ ((if false then 1 else 0) + (if c then 2 else 0) + (if false then 4 else 0) : Nat) : Int32) &&& 1) = 0 := by decide
      rw [if_pos (ha ch)]
      exact rest
/-- arguments that are too many -/
theorem t_argx (I : TYI D V tn nu Y kr G F l E' f) (hC : TYC D V tn Y kr G F t) (hn : tn n ∧ n < 14000) (hl : V.2.2.1 27 n = l) (hL : 100 ≤ L) {x3 : Int32} {x4 : Int32} (h4 : 0 ≤ x4 ∨ 0 ≤ x3) : ∀ {ls : List (ExT f)} {T : Int} {t' : wS}, TYR t T t' → RXs V (fun e => RX D V tn nu Y kr l f C e ∧ wd f e + 354 ≤ L) ls → (∀ t'', TYR t (min (tyA G isEl (tyE D G F (16 * l.toInt) f) (16 * l.toInt) [] T ls) (16 * l.toInt + 8)) t'' → Q (.inl none) t'') → zL_X13_typeArguments_p49 E' L Q (i_ n) x3 x4 (hdn ls) t'
  | [], T, t', h, _, hq => by
    refine zt_X13_typeArguments_p49 (by omega) ?_
    simp only [zb_X13_typeArguments_p49, zb_X13_typeArguments_p83, zb_X13_typeArguments_p95, i_nat' (show n < 2147483648 by omega)]
    rw [if_pos hdn_lt]
    have tell : kx_inb (i_ n) (w_n t' 12 0 27) = true ∧ zw E' (L - 22) kt_M560 [.ref (w_adr E'.2.1 12 0), .int 8, .int (w_a t' 12 0 27 n)] t' (wk0 (fun w1 => wle t' w1 → Q (.inl none) w1) (fun e w => Q (.inr e) w)) := t_tell (k := 8) (K := fun w1 => Q (.inl none) w1) (.inr (.inl rfl)) rfl (by omega) hC hn hl h hq
    by_cases c : 0 ≤ x4
    · rw [if_pos c]
      exact tell
    · rw [if_neg c, if_neg (Int32.not_lt.mpr (h4.resolve_left c))]
      exact tell
  | e :: ls, T, t', h, hx, hq => by
    obtain ⟨-, ⟨h1, hw⟩, ⟨-, h2⟩, h3⟩ := hx
    obtain ⟨hne, h14⟩ := h1.ht
    refine zt_X13_typeArguments_p49 (by omega) ?_
    simp only [zb_X13_typeArguments_p49, hdn_c, i_nat' (show xn e < 2147483648 by omega)]
    rw [if_neg (i_nn (by omega))]
    refine I C e _ _ _ (hC.mv h) h1 (by omega) (fun t1 g1 _ => fun _ => ?_)
    have g2 := h.tr g1
    have hC1 := hC.mv g2
    refine ⟨hC1.1.i h14 rfl, ?_⟩
    rw [hC1.1.r hne rfl, h2]
    refine t_argx I hC hn hl hL h4 g2 h3 (fun t'' k => hq t'' (k.e ?_))
    show min _ _ = min (min _ _) _
    omega
/-- arguments -/
theorem t_args (I : TYI D V tn nu Y kr G F l E' f) (hC : TYC D V tn Y kr G F t) (hn : tn n ∧ n < 14000) (hl : V.2.2.1 27 n = l) (hL : 100 ≤ L) : ∀ {ls : List (ExT f)} {fs : List (Nat × Bool × Bool × Bool)} {x3 : Int32} {T : Int} {t' : wS}, TYR t T t' → FCH V tn Y G t fs x3 → RXs V (fun e => RX D V tn nu Y kr l f C e ∧ wd f e + 354 ≤ L) ls → (∀ t'', TYR t (tyA G isEl (tyE D G F (16 * l.toInt) f) (16 * l.toInt) fs T ls) t'' → Q (.inl none) t'') → zL_X13_typeArguments_p10 E' L Q (i_ n) x3 (hdn ls) t'
  | [], fs, x3, T, t', h, hF, hx, hq => by
    refine zt_X13_typeArguments_p10 (by omega) ?_
    simp only [zb_X13_typeArguments_p10, zb_X13_typeArguments_p45]
    rw [if_pos hdn_lt]
    refine zt_X13_typeArguments_p49 (by omega) ?_
    simp only [zb_X13_typeArguments_p49, zb_X13_typeArguments_p83, zb_X13_typeArguments_p95, i_nat' (show n < 2147483648 by omega)]
    rw [if_pos hdn_lt, if_neg hdn_le]
    cases fs with
    | nil =>
      have e : x3 = -1 := hF
      subst e
      rw [if_pos (show (-1 : Int32) < 0 by decide)]
      exact hq _ (h.e (if_pos rfl).symm)
    | cons fo fs =>
      obtain ⟨m, e, hm, -⟩ := hF
      subst e
      rw [if_neg (i_nn (by omega))]
      exact t_tell (k := 8) (K := fun w1 => Q (.inl none) w1) (.inr (.inl rfl)) rfl (by omega) hC hn hl h (fun t'' h2 => hq _ (h2.e (if_neg (List.cons_ne_nil _ _)).symm))
  | e :: ls, fs, x3, T, t', h, hF, hx, hq => by
    have hx0 := hx
    obtain ⟨-, ⟨h1, hw⟩, ⟨-, h2⟩, h3⟩ := hx
    obtain ⟨hne, h14⟩ := h1.ht
    refine zt_X13_typeArguments_p10 (by omega) ?_
    simp only [zb_X13_typeArguments_p10, zb_X13_typeArguments_p45, hdn_c, i_nat' (show xn e < 2147483648 by omega)]
    rw [if_neg (i_nn (by omega))]
    cases fs with
    | nil =>
      have e' : x3 = -1 := hF
      subst e'
      rw [if_pos (show (-1 : Int32) < 0 by decide)]
      refine t_argx (ls := e :: ls) I hC hn hl hL (.inl (Int32.not_lt.mp (i_nn (by omega)))) h hx0 (fun t'' k => hq t'' (k.e ?_))
      show min (min _ _) _ = min _ _
      omega
    | cons fo fs =>
      obtain ⟨m, e', hm, ⟨g1, g2, g3⟩, g4, g5⟩ := hF
      subst e'
      rw [if_neg (i_nn (by omega))]
      obtain ⟨sf, va, ar, ch⟩ := fo
      refine t_arg I hC h1 (by omega) h hm g1 g2 g3 g4 (fun t1 k1 => fun _ => ?_)
      have hC1 := hC.mv k1
      refine ⟨hC1.1.i hm.2 rfl, hC1.1.i h14 rfl, ?_⟩
      rw [i_nat' (show m < 2147483648 by omega), hC1.1.r hm.1 rfl, hC1.1.r hne rfl, h2]
      exact t_args I hC hn hl hL k1 g5 h3 hq
end TYG
