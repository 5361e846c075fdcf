/-! ===== ROUNDS, part 9: expressions ===== -/
/-- what follows a name in an expression, in the twin -/
def nEf (E : zE) (L : Nat) (Q : kx_Rs → wS → Prop) (x1 x2 v6 : Int32) (w5 : wS) : Prop := (if v6 < 0 then zb_X13_nameE_p254 E L Q x1 w5 else (kx_inb v6 (w_n w5 12 0 46) = true ∧ (if w_a w5 12 0 46 (v6).toNatClampNeg = 1 then zb_X13_nameE_p254 E L Q x1 w5 else (kx_inb v6 (w_n w5 12 0 46) = true ∧ (if w_a w5 12 0 46 (v6).toNatClampNeg = 2 then zb_X13_nameE_p254 E L Q x1 w5 else (kx_inb v6 (w_n w5 12 0 46) = true ∧ (if w_a w5 12 0 46 (v6).toNatClampNeg = 9 then zb_X13_nameE_p254 E L Q x1 w5 else (kx_inb v6 (w_n w5 12 0 46) = true ∧ (if ¬ w_a w5 12 0 46 (v6).toNatClampNeg = 3 then zb_X13_nameE_p258 E L Q x1 w5 else (if x2 = 0 then zb_X13_nameE_p258 E L Q x1 w5 else zb_X13_nameE_p254 E L Q x1 w5))))))))))
/-- a name that may stand there -/
def gd (t : wS) (ar : Bool) (rr : Option Nat) : Bool := match rr with
  | none => true
  | some s => decide (w_a t 12 0 46 s = 1) || (decide (w_a t 12 0 46 s = 2) || (decide (w_a t 12 0 46 s = 9) || (decide (w_a t 12 0 46 s = 3) && ar)))
def kT (b : Bool) (l : Int32) : Int := if b = true then NOF else fln 6 l
theorem kT_ok {b : Bool} {l : Int32} : FTK (kT b l) := by
  unfold kT
  split
  · exact .inl rfl
  · exact .inr ⟨6, l, ⟨by decide, by decide⟩, rfl⟩
theorem kT_nof {b : Bool} {l : Int32} (h : kT b l = NOF) : b = true := by
  unfold kT at h
  split at h
  · assumption
  · have := (fln_m (k := 6) (l := l) ⟨by decide, by decide⟩).2.2
    omega
theorem fT_nof {r : Option Nat} {l : Int32} (h : fT r l = NOF) : ∃ s, r = some s := by
  cases r with
  | some s => exact ⟨s, rfl⟩
  | none =>
    have := (fln_m (k := 5) (l := l) ⟨by decide, by decide⟩).2.2
    have h : fln 5 l = NOF := h
    omega
section NEY
variable {D : pD} {V : pV} {nu : pN} {tn : Nat → Prop} {rt p q n m r d j k s A cr f b k0 : Nat} {pb : Nat → Nat} {J J' : List Nat} {S0 S S' : nS} {T T' T1 Tc : Int} {v rr : Option Nat} {x x' : Int32} {kr : List Nat} {C C' : Nat → Prop} {E' : zE} {L L' Lc Lx Lt : Nat} {Φ : kx_Rs → wS → kx_Rs → wS → Prop} {ol : Option Int32} {Q : kx_Rs → wS → Prop} {ar : Bool}
theorem IVN.sy (h : IVN D V nu tn rt S) (hs : S.ys s = some A) : ∃ c : Nat, (1 ≤ c ∧ c ≤ 9) ∧ w_a S.t 12 0 46 s = i_ c ∧ w_p S.w 15 A 0 = some (D.1.1.1 (wc c)) ∧ w_l S.w D.1.2.1 15 A ∧ s < 6100 := by
  obtain ⟨-, h1, -, c, h2, h3, h4, -⟩ := h.2.2.2.1.1 s A hs
  exact ⟨c, h2, h3, h4, h1.2, h1.1⟩
theorem wc69 {c : Nat} : wc c < 69 := by
  unfold wc
  split <;> decide
theorem i_c1 {c : Nat} (h : c ≤ 9) (k : Nat) (hk : k ≤ 9) : ((i_ c : Int32) = i_ k) = (c = k) := propext (by
  rw [i_eq (by omega) (by omega)]
  omega)
/-- the twin's look at what a name is -/
theorem t_kv (h : IVN D V nu tn rt S) (htn : tn n) (hn : n < 14000) (hL : 62 ≤ L') (hm : ∀ s, rr = some s → S.ys s ≠ none) (hq : Q (.inl none) (tu S.t (kT (gd S.t ar rr) (V.2.2.1 27 n)))) : nEf E' L' Q (i_ n) (bI ar) (sno rr) S.t := by
  have hT := h.1.2.1
  have hf := h.2.2.2.2.2.2.1.2
  have h27 := h.1.2.2 n htn 27 rfl
  have good : gd S.t ar rr = true → zb_X13_nameE_p254 E' L' Q (i_ n) S.t := fun e => by
    simp only [zb_X13_nameE_p254, zb_X13_nameE_p259, zb_X13_nameE_p278]
    rw [if_pos (by decide)]
    rw [e] at hq
    have e2 : kT true (V.2.2.1 27 n) = NOF := rfl
    rw [e2, tu_nof hf] at hq
    exact hq
  have bad : gd S.t ar rr = false → zb_X13_nameE_p258 E' L' Q (i_ n) S.t := fun e => by
    simp only [zb_X13_nameE_p258, zb_X13_nameE_p259, zb_X13_nameE_p278]
    rw [if_neg (by decide)]
    simp only [i_nat' (show n < 2147483648 by omega), h27]
    refine ⟨hT.i rfl hn, ?_⟩
    rw [e] at hq
    refine t_tells (k := 6) (by omega) hf ⟨by decide, by decide⟩ ?_
    exact fun _ => hq
  unfold nEf
  cases rr with
  | none =>
    rw [if_pos (by decide)]
    exact good rfl
  | some s =>
    have h1 := hm s rfl
    cases e : S.ys s with
    | none => exact absurd e h1
    | some A =>
      obtain ⟨c, h2, h3, h4, h5, h6⟩ := h.sy e
      simp only [sno, i_nat' (show s < 2147483648 by omega)]
      rw [if_neg (i_nn (by omega))]
      have hin : kx_inb (i_ s) (w_n S.t 12 0 46) = true := hT.sy rfl h6
      refine ⟨hin, ?_⟩
      unfold gd at good bad
      simp only [h3, show (1 : Int32) = i_ (1 : Nat) from rfl, show (2 : Int32) = i_ (2 : Nat) from rfl, show (9 : Int32) = i_ (9 : Nat) from rfl, show (3 : Int32) = i_ (3 : Nat) from rfl, i_c1 h2.2 1 (by decide), i_c1 h2.2 2 (by decide), i_c1 h2.2 9 (by decide), i_c1 h2.2 3 (by decide)] at good bad ⊢
      by_cases c1 : c = 1
      · rw [if_pos c1]
        exact good (by simp [c1])
      rw [if_neg c1]
      refine ⟨hin, ?_⟩
      by_cases c2 : c = 2
      · rw [if_pos c2]
        exact good (by simp [c2])
      rw [if_neg c2]
      refine ⟨hin, ?_⟩
      by_cases c9 : c = 9
      · rw [if_pos c9]
        exact good (by simp [c9])
      rw [if_neg c9]
      refine ⟨hin, ?_⟩
      by_cases c3 : c = 3
      · rw [if_neg (not_not_intro c3)]
        cases ar with
        | false =>
          rw [if_pos (by decide)]
          exact bad (by simp [c3])
        | true =>
          rw [if_neg (by decide)]
          exact good (by simp [c3])
      · rw [if_pos c3]
        exact bad (by simp [c1, c2, c9, c3])
/-- MeetingHouse's -/
theorem c_valued (h : IVN D V nu tn rt S) (hz : zA D.1) (hA : S.ys s = some A) (hw : w_l S.w D.1.2.1 14 p) (hp : w_p S.w 14 p 16 = some A) (hL : 62 ≤ L) (hq : Q (.inl none) (if gd S.t false (some s) = true then S.w else ws_p (ru S.w (fln 6 (w_i S.w 14 p 2))) 14 p 16 none)) : zw D.1 L kt_M155 [.ref (w_adr D.1.2.1 5 0), va_rf (some p)] S.w Q := by
  obtain ⟨c, h2, h3, h4, h5, h6⟩ := h.sy hA
  refine zt_X6_valued_p0 (by omega) ?_
  simp only [zb_X6_valued_p0, zb_X6_valued_p26]
  refine ⟨p, rfl, hw, A, hp, h5, ?_⟩
  have e1 : (i_ c = (1 : Int32)) = (c = 1) := i_c1 h2.2 1 (by decide)
  have e2 : (i_ c = (2 : Int32)) = (c = 2) := i_c1 h2.2 2 (by decide)
  have e9 : (i_ c = (9 : Int32)) = (c = 9) := i_c1 h2.2 9 (by decide)
  unfold gd at hq
  simp only [h3, e1, e2, e9, Bool.and_false, Bool.or_false, Bool.or_eq_true, decide_eq_true_eq] at hq
  rw [h4]
  simp only [eo_eq hz wc69 (show 54 < 69 by decide), eo_eq hz wc69 (show 55 < 69 by decide)]
  have hc : c = 1 ∨ (c = 2 ∨ c = 9) ∨ (c ≠ 1 ∧ c ≠ 2 ∧ c ≠ 9 ∧ wc c ≠ 54 ∧ wc c ≠ 55) := by
    have : c = 1 ∨ c = 2 ∨ c = 3 ∨ c = 4 ∨ c = 5 ∨ c = 6 ∨ c = 7 ∨ c = 8 ∨ c = 9 := by omega
    rcases this with e | e | e | e | e | e | e | e | e <;> subst e <;> decide
  rcases hc with e | e | ⟨g1, g2, g3, g4, g5⟩
  · rw [if_pos (by rw [e]; rfl)]
    rw [if_pos (.inl e)] at hq
    exact hq
  · have f : wc c = 55 := by rcases e with e | e <;> rw [e] <;> rfl
    rw [if_neg (by rw [f]; decide), if_neg (not_not_intro f)]
    rw [if_pos (.inr e)] at hq
    exact hq
  · rw [if_neg g4, if_pos g5]
    rw [if_neg (by omega)] at hq
    refine c_rule (k := 6) (by omega) h.2.2.2.2.2.2.1.1 ⟨by decide, by decide⟩ ?_
    exact fun _ => hq
/-- what is meant, if it is of a kind; else a fault -/
def f2v (t : wS) (C : Nat) (rr : Option Nat) : Option Nat := rr.bind (fun s => if w_a t 12 0 46 s = i_ C then some s else none)
def f2T (t : wS) (C : Nat) (rr : Option Nat) (l : Int32) : Int := match rr with
  | none => fln 5 l
  | some s => if w_a t 12 0 46 s = i_ C then NOF else fln 6 l
theorem f2T_ok {t : wS} {C : Nat} {l : Int32} : FTK (f2T t C rr l) := by
  unfold f2T
  cases rr with
  | none => exact .inr ⟨5, l, ⟨by decide, by decide⟩, rfl⟩
  | some s =>
    simp only
    split
    · exact .inl rfl
    · exact .inr ⟨6, l, ⟨by decide, by decide⟩, rfl⟩
theorem f2T_nof {t : wS} {C : Nat} {l : Int32} (h : f2T t C rr l = NOF) : ∃ s, rr = some s ∧ w_a t 12 0 46 s = i_ C ∧ f2v t C rr = some s := by
  unfold f2T at h
  cases rr with
  | none =>
    have := (fln_m (k := 5) (l := l) ⟨by decide, by decide⟩).2.2
    simp only at h
    omega
  | some s =>
    simp only at h
    split at h
    · rename_i e
      refine ⟨s, rfl, e, ?_⟩
      unfold f2v
      simp [e]
    · have := (fln_m (k := 6) (l := l) ⟨by decide, by decide⟩).2.2
      omega
/-- the symbols' kinds that are asked for -/
def wcC (W C : Nat) : Prop := W < 69 ∧ C ≤ 9 ∧ ∀ c, 1 ≤ c → c ≤ 9 → (wc c = W ↔ c = C)
theorem wcC_mk {W C : Nat} (hW : W < 69) (hC : C ≤ 9) (h : ∀ c, c < 10 → 1 ≤ c → (wc c = W ↔ c = C)) : wcC W C := ⟨hW, hC, fun c h1 h2 => h c (by omega) h1⟩
theorem wc_1 : wcC 54 1 := wcC_mk (by decide) (by decide) (by decide)
theorem wc_3 : wcC 53 3 := wcC_mk (by decide) (by decide) (by decide)
theorem wc_5 : wcC 57 5 := wcC_mk (by decide) (by decide) (by decide)
theorem wc_6 : wcC 59 6 := wcC_mk (by decide) (by decide) (by decide)
theorem wc_7 : wcC 60 7 := wcC_mk (by decide) (by decide) (by decide)
theorem wc_8 : wcC 56 8 := wcC_mk (by decide) (by decide) (by decide)
theorem fnd_ys {t : wS} (hI : IVN D V nu tn rt S) (hk : KRE S kr) {y : Int32} : ∀ s, fnd t kr y = some s → S.ys s ≠ none := fun s e => hI.2.2.2.2.2.1.1.2 s (by rw [hk.1]; exact (fnd_mem e).1)
theorem IVN.cf2 (h : IVN D V nu tn rt S) (hs : STR D V nu tn rt) (hk : KRE S kr) {l : Int32} {W Cx : Nat} (hW : wcC W Cx) (hx : nmr D x x') (hL : 120 ≤ L) (hq : Q (.inl (some (va_rf ((f2v S.t Cx (fnd S.t kr x')).bind S.ys)))) (ru S.w (f2T S.t Cx (fnd S.t kr x') l))) : zw D.1 L kt_M143 [.ref (w_adr D.1.2.1 5 0), .int x, .int l, va_rf (some (D.1.1.1 W))] S.w Q := by
  refine zt_X6_find_2_p0 (by omega) ?_
  simp only [zb_X6_find_2_p0, zb_X6_find_2_p22]
  refine h.cf hs hk hx (by omega) ?_
  have hf := h.2.2.2.2.2.2.1.1
  have hm := fnd_ys (t := S.t) h hk (y := x')
  cases e : fnd S.t kr x' with
  | none =>
    rw [e] at hq
    simp only [Option.bind_none, va_rf, wkr]
    intro _
    rw [if_pos trivial]
    exact hq
  | some s =>
    rw [e] at hq
    have e2 : fT (some s) l = NOF := rfl
    rw [e2, ru_nof hf]
    have hms := hm s e
    cases ea : S.ys s with
    | none => exact absurd ea hms
    | some A =>
      obtain ⟨c, g2, g3, g4, g5, g6⟩ := h.sy ea
      simp only [Option.bind_some, ea, va_rf, wkr]
      intro _
      rw [if_neg (by simp)]
      refine ⟨A, rfl, g5, ?_⟩
      rw [g4]
      simp only [eo_eq hs.1.1 wc69 hW.1]
      have hcc : (i_ c = (i_ Cx : Int32)) = (c = Cx) := i_c1 g2.2 Cx hW.2.1
      unfold f2v f2T at hq
      simp only [Option.bind_some, g3, hcc] at hq
      by_cases ec : c = Cx
      · rw [if_neg (not_not_intro ((hW.2.2 c g2.1 g2.2).mpr ec))]
        rw [if_pos ec, if_pos ec, ru_nof hf] at hq
        simp only [Option.bind_some, ea] at hq
        exact hq
      · rw [if_pos (fun z => ec ((hW.2.2 c g2.1 g2.2).mp z))]
        rw [if_neg ec, if_neg ec] at hq
        refine c_rule (k := 6) (by omega) hf ⟨by decide, by decide⟩ ?_
        exact fun _ => hq
theorem min_nof {a b : Int} (ha : FTK a) (hb : FTK b) (h : min a b = NOF) : a = NOF ∧ b = NOF := by
  have := ha.le
  have := hb.le
  omega
/-- the kinds of nodes, as MeetingHouse asks for them -/
theorem zO_k (hz : zA D.1) {w : wS} {i : Nat} (hi : i < 69) (h : w_p w 14 p 0 = some (D.1.1.1 i)) (hc : (kw_en.getD i ("", "", "", 0)).1 = "MeetingHouse$Kind") : zO D.1 "MeetingHouse$Kind" (w_p w 14 p 0) i := ⟨hz, hi, h, hc⟩
end NEY
