/-! ===== ROUNDS, part 6: the round of names: at a node ===== -/
section HMS
variable {D : pD} {V : pV} {nu : pN} {tn : Nat → Prop} {rt p q n r d j j2 k cr : Nat} {J : List Nat} {S0 S S' : nS} {T T' T1 : Int} {v : Option Nat} {x : Int32} {A G : nS → Prop} {rc r' : kx_Rs} {w' t' : wS}
theorem FTK.min (h : FTK T) (h' : FTK T1) : FTK (min T T1) := by
  rcases Int.le_total T T1 with e | e
  · rw [Int.min_eq_left e]; exact h
  · rw [Int.min_eq_right e]; exact h'
theorem FTK.le (h : FTK T) : T ≤ NOF := by
  rcases h with e | ⟨k, l, hk, e⟩
  · omega
  · have := (fln_m (l := l) hk).2.2
    omega
theorem FTn_a (hk : KNn.any (Nat.beq k) = true) {t : wS} : FTn t (ws_a t 12 0 k j x) := frm_a hk
theorem FTn_tu {t : wS} : FTn t (tu t T) := by
  unfold tu
  split
  · exact frm.rf
  · exact (frm_i (by decide)).tr (frm_i (by decide))
theorem FN_ru {w : wS} : FN w (ru w T) := by
  unfold ru
  split
  · exact FN.rf
  · exact (FN_i rfl).tr (FN_i rfl)
theorem SMN.rf : SMN nu S S p := ⟨⟨rfl, rfl⟩, fun _ _ _ _ _ _ => rfl⟩
theorem SMN.tr {S1 : nS} (h : SMN nu S S' p) (h' : SMN nu S' S1 p) : SMN nu S S1 p := ⟨⟨h'.1.1.trans h.1.1, h'.1.2.trans h.1.2⟩, fun n r d e k hk => (h'.2 n r d e k hk).trans (h.2 n r d e k hk)⟩
theorem SMS.rf : SMS S S := ⟨fun _ _ h => ⟨h, fun _ => ⟨rfl, fun _ => rfl⟩⟩, fun _ _ _ _ => rfl, Nat.le_refl _, fun _ h => .inl h, ⟨Nat.le_refl _, fun _ _ => ⟨rfl, fun _ => rfl⟩⟩, fun _ h => h⟩
theorem SMS.tr {S1 : nS} (h : SMS S S') (h' : SMS S' S1) (hu : S'.u = S.u ∨ S.un ≤ S'.u) : SMS S S1 := by
  obtain ⟨a1, a2, a3, a4, ⟨a5, a6⟩, a7⟩ := h
  obtain ⟨b1, b2, b3, b4, ⟨b5, b6⟩, b7⟩ := h'
  refine ⟨fun s A hs => ?_, fun s hs k hk => (b2 s (by omega) k hk).trans (a2 s hs k hk), by omega, fun s hs => ?_, ⟨by omega, fun x hx => ?_⟩, fun q hq => b7 q (a7 q hq)⟩
  · obtain ⟨c1, c2⟩ := a1 s A hs
    obtain ⟨d1, d2⟩ := b1 s A c1
    exact ⟨d1, fun k => ⟨(d2 k).1.trans (c2 k).1, fun h4 => ((d2 k).2 h4).trans ((c2 k).2 h4)⟩⟩
  · rcases b4 s hs with h | h
    · exact a4 s h
    · exact .inr (by omega)
  · obtain ⟨c1, c2⟩ := a6 x hx
    obtain ⟨d1, d2⟩ := b6 x (by omega)
    exact ⟨d1.trans c1, fun hne => (d2 (fun e => hu.elim (fun h => hne (by rw [e, h])) (fun h => by omega))).trans (c2 hne)⟩
theorem SMS.w (h : SMS S S') : SMW S S' := ⟨h.1, h.2.1, h.2.2.1, trivial, h.2.2.2.2.1, h.2.2.2.2.2⟩
theorem SMW.rf : SMW S S := SMS.rf.w
theorem SMW.tr {S1 : nS} (h : SMW S S') (h' : SMW S' S1) (hu : S'.u = S.u ∨ S.un ≤ S'.u) : SMW S S1 := by
  obtain ⟨a1, a2, a3, a4, ⟨a5, a6⟩, a7⟩ := h
  obtain ⟨b1, b2, b3, b4, ⟨b5, b6⟩, b7⟩ := h'
  refine ⟨fun s A hs => ?_, fun s hs k hk => (b2 s (by omega) k hk).trans (a2 s hs k hk), by omega, trivial, ⟨by omega, fun x hx => ?_⟩, fun q hq => b7 q (a7 q hq)⟩
  · obtain ⟨c1, c2⟩ := a1 s A hs
    obtain ⟨d1, d2⟩ := b1 s A c1
    exact ⟨d1, fun k => ⟨(d2 k).1.trans (c2 k).1, fun h4 => ((d2 k).2 h4).trans ((c2 k).2 h4)⟩⟩
  · obtain ⟨c1, c2⟩ := a6 x hx
    obtain ⟨d1, d2⟩ := b6 x (by omega)
    exact ⟨d1.trans c1, fun hne => (d2 (fun e => hu.elim (fun h => hne (by rw [e, h])) (fun h => by omega))).trans (c2 hne)⟩
theorem HN.uu {S1 : nS} (h : S.u = S0.u ∨ S0.un ≤ S.u) (h' : S1.u = S.u ∨ S.un ≤ S1.u) (hl : S0.un ≤ S.un) : S1.u = S0.u ∨ S0.un ≤ S1.u := by omega
theorem HN.rf : HN nu S S := ⟨⟨FN.rf, frm.rf⟩, SMS.rf, fun _ _ => ⟨SMN.rf, fun _ h => h, fun h => h⟩, fun _ h => h, fun _ _ h => h, fun _ h => h, ⟨Nat.le_refl _, fun _ h => h⟩, .inl rfl⟩
theorem HN.tr {S1 : nS} (h : HN nu S0 S) (h' : HN nu S S1) : HN nu S0 S1 := by
  obtain ⟨⟨a1, a2⟩, a3, a4, a5, a6, a7, ⟨a8, a9⟩, a10⟩ := h
  obtain ⟨⟨b1, b2⟩, b3, b4, b5, b6, b7, ⟨b8, b9⟩, b10⟩ := h'
  exact ⟨⟨a1.tr b1, a2.tr b2⟩, a3.tr b3 a10, fun b hb => ⟨(a4 b hb).1.tr (b4 b (a5 b hb)).1, fun j hj => (a4 b hb).2.1 j ((b4 b (a5 b hb)).2.1 j hj), fun e => (a4 b hb).2.2 ((b4 b (a5 b hb)).2.2 e)⟩, fun b hb => b5 b (a5 b hb), fun a j h => b6 a j (a6 a j h), fun a h => b7 a (a7 a h), ⟨by omega, fun a ha => b9 a (a9 a ha)⟩, HN.uu a10 b10 a3.2.2.2.2.1.1⟩
/-- a method begins at its node -/
theorem HM.start (hI : IVN D V nu tn rt S) (hv : VOK V nu rt S p) : HM D V nu tn rt p [] 5 S (S.at p) NOF NOF := by
  obtain ⟨⟨v1, v2, v3⟩, v4, v5⟩ := hv
  obtain ⟨a1, ⟨a2, a2b⟩, ⟨⟨a3, a4⟩, ⟨a5, a6⟩, a7, a8⟩, a9, a10, a11, a12, ⟨⟨b1, b2⟩, b3, b4, b5⟩⟩ := hI
  have hl : (p :: S.vs).length = S.vs.length + 1 := rfl
  refine ⟨⟨a1, ⟨a2, ?_⟩, ⟨⟨a3, ?_⟩, ⟨a5, ?_⟩, a7, a8⟩, a9, a10, a11, a12, ⟨⟨List.nodup_cons.mpr ⟨v1, b1⟩, fun a ha => ?_⟩, fun a j h => List.mem_cons_of_mem _ (b3 a j h), fun q hq => ?_, fun a h => List.mem_cons_of_mem _ (b5 a h)⟩⟩, ⟨⟨FN.rf, frm.rf⟩, SMS.rf, fun _ _ => ⟨SMN.rf, fun _ h => h, fun h => h⟩, fun _ h => List.mem_cons_of_mem _ h, fun _ _ h => h, fun _ h => h, ⟨Nat.le_refl _, fun _ h => h⟩, .inl rfl⟩, ⟨List.mem_cons_self, v1, fun h => v1 (b5 p h), fun j h => absurd h (v4 j)⟩, ⟨⟨?_, a4⟩, ⟨?_, a2b⟩, ?_, a6⟩, ⟨.inl rfl, .inl rfl⟩, ?_, ?_⟩
  · show S.am ≤ 2 + 2 * (p :: S.vs).length
    omega
  · show S.sn ≤ 2 + (p :: S.vs).length
    omega
  · show S.un ≤ 1 + (p :: S.vs).length
    omega
  · rcases List.mem_cons.mp ha with e | e
    · subst e
      exact ⟨v2, v3⟩
    · exact b2 a e
  · rcases List.mem_cons.mp hq with e | e
    · subst e
      exact v5
    · exact b4 q e
  · show S.sn + S.vs.length + 5 % 2 ≤ S.sn + (p :: S.vs).length
    omega
  · show S.am + 2 * S.vs.length + 5 / 2 ≤ S.am + 2 * (p :: S.vs).length
    omega
  · show S.un + S.vs.length + 5 % 2 ≤ S.un + (p :: S.vs).length
    omega
  · show fcc S.w = min (fcc S.w) NOF
    have := fcd_le (y := w_i S.w 2 0 2) a12.1
    unfold fcc
    omega
  · show fct S.t = min (fct S.t) NOF
    have := fcd_le (y := w_i S.t 12 0 65) a12.2
    unfold fct
    omega
/-- heaps that change so far -/
theorem HM.wt (h : HM D V nu tn rt p J cr S0 S T T') (hI : IVN D V nu tn rt (S.wt w' t')) (hN : FN S.w w' ∧ FTn S.t t') (h15 : ∀ s A, S.ys s = some A → ∀ k, w_i w' 15 A k = w_i S.w 15 A k ∧ w_p w' 15 A k = w_p S.w 15 A k) (ha : ∀ k, tl61 k = true → w_a t' 12 0 k = w_a S.t 12 0 k) (hs : ∀ b ∈ S0.vs, SMN nu S (S.wt w' t') b) {T2 T2' : Int} (hT : FTK T2 ∧ FTK T2') (h1 : fcc w' = min (fcc S.w) T2) (h2 : fct t' = min (fct S.t) T2') : HM D V nu tn rt p J cr S0 (S.wt w' t') (min T T2) (min T' T2') := by
  obtain ⟨a0, ⟨⟨a1, a2⟩, ⟨a3, a4, a5, a6, ⟨a7, a8⟩, a9⟩, b1, b2, b3, b4, b5, b6⟩, c1, c2, ⟨c3, c4⟩, c5, c6⟩ := h
  have e6 : ∀ k, k < 56 → 45 ≤ k → tl61 k = true := by decide
  refine ⟨hI, ⟨⟨a1.tr hN.1, a2.tr hN.2⟩, ⟨fun s A hs => ⟨(a3 s A hs).1, fun k => ⟨(h15 s A (a3 s A hs).1 k).1.trans ((a3 s A hs).2 k).1, fun h4 => (h15 s A (a3 s A hs).1 k).2.trans (((a3 s A hs).2 k).2 h4)⟩⟩, fun s hs k hk => (congrFun (ha k (e6 k (by omega) hk.1)) s).trans (a4 s hs k hk), a5, a6, ⟨a7, fun x hx => ⟨(congrFun (ha 60 rfl) x).trans (a8 x hx).1, fun hne => (congrFun (ha 61 rfl) x).trans ((a8 x hx).2 hne)⟩⟩, a9⟩, fun b hb => ⟨(b1 b hb).1.tr (hs b hb), (b1 b hb).2⟩, b2, b3, b4, b5, b6⟩, c1, c2, ⟨c3.min hT.1, c4.min hT.2⟩, ?_, ?_⟩
  · show fcc w' = _
    rw [h1, c5]
    omega
  · show fct t' = _
    rw [h2, c6]
    omega
theorem HM.nof (h : HM D V nu tn rt p J cr S0 S (min T NOF) (min T' NOF)) (hT : FTK T ∧ FTK T') : HM D V nu tn rt p J cr S0 S T T' := by
  have h1 := hT.1.le
  have h2 := hT.2.le
  rw [Int.min_eq_left h1, Int.min_eq_left h2] at h
  exact h
theorem fcc_nof {w : wS} (h : fkk (w_i w 2 0 1)) : fcc w = min (fcc w) NOF := by
  have := fcd_le (y := w_i w 2 0 2) h
  unfold fcc
  omega
theorem fct_nof {t : wS} (h : fkk (w_i t 12 0 64)) : fct t = min (fct t) NOF := by
  have := fcd_le (y := w_i t 12 0 65) h
  unfold fct
  omega
/-- MeetingHouse writes what a node means -/
theorem HM.p16 (h : HM D V nu tn rt p J cr S0 S T T') : HM D V nu tn rt p J cr S0 (S.wt (ws_p S.w 14 p 16 v) S.t) T T' := by
  have hf := h.1.2.2.2.2.2.2.1
  refine HM.nof (HM.wt (w' := ws_p S.w 14 p 16 v) (t' := S.t) h (h.1.cw (fun _ a _ k => ⟨rfl, by rw [Rpp, if_neg (fun z => absurd z.2.1 (by decide))]⟩) ⟨rfl, by rw [Rpp, if_neg (fun z => absurd z.2.1 (by decide))]⟩ rfl h.1.2.1.1.p hf.1 h.1.1.1.p16) ⟨FN_p rfl, frm.rf⟩ (fun _ a _ k => ⟨rfl, by rw [Rpp, if_neg (fun z => absurd z.2.1 (by decide))]⟩) (fun _ _ => rfl) (fun b hb => ⟨⟨?_, rfl⟩, fun _ _ _ _ _ _ => rfl⟩) ⟨.inl rfl, .inl rfl⟩ (fcc_nof hf.1) (fct_nof hf.2)) h.2.2.2.2.1
  show w_p (ws_p S.w 14 p 16 v) 14 b 16 = _
  rw [Rpp, if_neg (fun z => h.2.2.1.2.1 (by rw [← z.2.2]; exact hb))]
/-- the twin writes something of its node -/
theorem HM.ta (h : HM D V nu tn rt p J cr S0 S T T') (hs : INJ nu) (hp : nu p = some (n, r, d)) (hn : n < 14000) (hk : k = 31 ∨ k = 63 ∨ k = 66 ∨ k = 67) : HM D V nu tn rt p J cr S0 (S.wt S.w (ws_a S.t 12 0 k n x)) T T' := by
  have hf := h.1.2.2.2.2.2.2.1
  have hk61 : ∀ k', tl61 k' = true → k' ≠ k := fun k' h1 e => by
    rw [e] at h1
    rcases hk with e | e | e | e <;> rw [e] at h1 <;> cases h1
  have hkr : tlr k = false := by rcases hk with e | e | e | e <;> rw [e] <;> rfl
  have hkn : KNn.any (Nat.beq k) = true := by rcases hk with e | e | e | e <;> rw [e] <;> rfl
  have ha : ∀ k', tl61 k' = true → w_a (ws_a S.t 12 0 k n x) 12 0 k' = w_a S.t 12 0 k' := fun k' h1 => by
    funext y
    rw [Raa, if_neg (fun z => hk61 k' h1 z.1)]
  refine HM.nof (HM.wt (w' := S.w) (t' := ws_a S.t 12 0 k n x) h (h.1.tw ha (fun _ _ => rfl) hf.2 (h.1.1.2.a hkr)) ⟨FN.rf, FTn_a hkn⟩ (fun _ a _ k => ⟨rfl, rfl⟩) ha (fun b hb => ⟨⟨rfl, rfl⟩, fun n' r' d' e k' hk' => ?_⟩) ⟨.inl rfl, .inl rfl⟩ (fcc_nof hf.1) (fct_nof hf.2)) h.2.2.2.2.1
  show w_a (ws_a S.t 12 0 k n x) 12 0 k' n' = _
  rw [Raa, if_neg (fun z => ?_)]
  have e2 : n' = n := z.2.2.2
  subst e2
  have := hs _ _ _ _ _ _ _ e hp (by omega)
  subst this
  exact h.2.2.1.2.1 hb
/-- a fault is told -/
theorem HM.cru (h : HM D V nu tn rt p J cr S0 S T T') (hT : FTK T1) : HM D V nu tn rt p J cr S0 (S.wt (ru S.w T1) S.t) (min T T1) T' := by
  have hf := h.1.2.2.2.2.2.2.1
  obtain ⟨e1, e2⟩ := ru_fcc hf.1 hT
  have hr : ∀ c o k, c ≠ 2 → w_i (ru S.w T1) c o k = w_i S.w c o k := fun c o k hc => by
    unfold ru
    split
    · rfl
    · rw [Rii, if_neg (fun z => hc z.2.1), Rii, if_neg (fun z => hc z.2.1)]
  have hp : ∀ c o k, w_p (ru S.w T1) c o k = w_p S.w c o k := fun c o k => by
    unfold ru
    split <;> rfl
  have ho : w_o (ru S.w T1) = w_o S.w := by unfold ru; split <;> rfl
  have hS : SSO D.1 (ru S.w T1) S.al S.am := by
    unfold ru
    split
    · exact h.1.2.1.1
    · exact (h.1.2.1.1.i (by decide)).i (by decide)
  have h0 := h.2.2.2.2.1.2.le
  have hm := HM.wt (w' := ru S.w T1) (t' := S.t) h (T2 := T1) (T2' := NOF) (h.1.cw (fun _ a _ k => ⟨hr 15 a k (by decide), hp 15 a k⟩) ⟨hr 5 0 4 (by decide), hp 5 0 3⟩ ho hS e2 h.1.1.1.rul) ⟨FN_ru, frm.rf⟩ (fun _ a _ k => ⟨hr 15 a k (by decide), hp 15 a k⟩) (fun _ _ => rfl) (fun b hb => ⟨⟨hp 14 b 16, hr 14 b 10 (by decide)⟩, fun _ _ _ _ _ _ => rfl⟩) ⟨hT, .inl rfl⟩ e1 (fct_nof hf.2)
  rw [Int.min_eq_left h0] at hm
  exact hm
theorem HM.ttu (h : HM D V nu tn rt p J cr S0 S T T') (hT : FTK T1) : HM D V nu tn rt p J cr S0 (S.wt S.w (tu S.t T1)) T (min T' T1) := by
  have hf := h.1.2.2.2.2.2.2.1
  obtain ⟨e1, e2⟩ := tu_fct hf.2 hT
  have ha : ∀ c o k, w_a (tu S.t T1) c o k = w_a S.t c o k := fun c o k => by
    unfold tu
    split <;> rfl
  have hi : ∀ k, (k = 44 ∨ k = 56 ∨ k = 59 ∨ k = 62) → w_i (tu S.t T1) 12 0 k = w_i S.t 12 0 k := fun k hk => by
    unfold tu
    split
    · rfl
    · rw [Rii, if_neg (fun z => by have := z.1; omega), Rii, if_neg (fun z => by have := z.1; omega)]
  have hn : ∀ k, w_n (tu S.t T1) 12 0 k = w_n S.t 12 0 k := fun k => by
    unfold tu
    split <;> rfl
  have h0 := h.2.2.2.2.1.1.le
  have hT2 : TRTn V tn (tu S.t T1) := ⟨⟨fun k hk => by rw [hn]; exact h.1.1.2.1.1 k hk, fun k hk => by rw [hn]; exact h.1.1.2.1.2 k hk⟩, fun n hn k hk => by rw [ha]; exact h.1.1.2.2 n hn k hk⟩
  have hm := HM.wt (w' := S.w) (t' := tu S.t T1) h (T2 := NOF) (T2' := T1) (h.1.tw (fun k _ => ha 12 0 k) hi e2 hT2) ⟨FN.rf, FTn_tu⟩ (fun _ a _ k => ⟨rfl, rfl⟩) (fun k _ => ha 12 0 k) (fun b hb => ⟨⟨rfl, rfl⟩, fun _ _ _ _ k _ => congrFun (ha 12 0 k) _⟩) ⟨.inl rfl, hT⟩ (fcc_nof hf.1) e1
  rw [Int.min_eq_left h0] at hm
  exact hm
/-- along a link -/
theorem IVN.go (hI : IVN D V nu tn rt S) (hs : STR D V nu tn rt) (hp : p ∈ S.vs) (hj : ¬ S.tl p j) (hj7 : 3 ≤ j ∧ j ≤ 7) (hq : V.2.1 p j = some q) (hnu : nu q ≠ none) (hk : ¬ KDN nu q) : IVN D V nu tn rt (S.go p j) ∧ VOK V nu rt (S.go p j) q := by
  obtain ⟨a1, a2, a3, a4, a5, a6, a7, ⟨⟨b1, b2⟩, b3, b4, b5⟩⟩ := hI
  have hqv : q ∉ S.vs := fun hqv => by
    rcases b4 q hqv with e | ⟨a, i, h1, h2, h3⟩
    · subst e
      exact hs.2.2.2.2.2.1 p j (b2 p hp).1 hj7 hq
    · rcases hs.2.2.2.2.1 p a j i q (b2 p hp).1 (b2 a (b3 a i h1)).1 hj7 h2 hq h3 with e | ⟨e1, e2⟩
      · exact hk e
      · subst e1 e2
        exact hj h1
  refine ⟨⟨a1, a2, a3, a4, a5, a6, a7, ⟨⟨b1, b2⟩, fun a i h => ?_, fun x hx => ?_, b5⟩⟩, ⟨hqv, hnu, hk⟩, fun i h => ?_, .inr ⟨p, j, .inr ⟨rfl, rfl⟩, hj7, hq⟩⟩
  · rcases h with h | ⟨e, -⟩
    · exact b3 a i h
    · rw [e]; exact hp
  · rcases b4 x hx with e | ⟨a, i, h1, h2⟩
    · exact .inl e
    · exact .inr ⟨a, i, .inl h1, h2⟩
  · rcases h with h | ⟨e, -⟩
    · exact hqv (b3 q i h)
    · rw [e] at hqv
      exact hqv hp
theorem HM.go (h : HM D V nu tn rt p J cr S0 S T T') (hs : STR D V nu tn rt) (hj : j ∉ J) (hj7 : 3 ≤ j ∧ j ≤ 7) (hq : V.2.1 p j = some q) (hnu : nu q ≠ none) (hk : ¬ KDN nu q) : IVN D V nu tn rt (S.go p j) ∧ VOK V nu rt (S.go p j) q := h.1.go hs h.2.2.1.1 (fun e => hj (h.2.2.1.2.2.2 j e)) hj7 hq hnu hk
/-- nodes that are done stay; so do symbols -/
def NX (nu : pN) (S S' : nS) : Prop := SMS S S' ∧ (∀ b, S.dn b → S'.dn b ∧ SMN nu S S' b) ∧ ∀ a j, S.tl a j → S'.tl a j
theorem NX.rf : NX nu S S := ⟨SMS.rf, fun _ h => ⟨h, SMN.rf⟩, fun _ _ h => h⟩
theorem NX.tr {S1 : nS} (h : NX nu S S') (h' : NX nu S' S1) (hu : S'.u = S.u ∨ S.un ≤ S'.u) : NX nu S S1 := ⟨h.1.tr h'.1 hu, fun b hb => ⟨(h'.2.1 b (h.2.1 b hb).1).1, (h.2.1 b hb).2.tr (h'.2.1 b (h.2.1 b hb).1).2⟩, fun a j e => h'.2.2 a j (h.2.2 a j e)⟩
theorem HN.nx (h : HN nu S S') (hI : IVN D V nu tn rt S) : NX nu S S' := ⟨h.2.1, fun b hb => ⟨h.2.2.2.2.2.1 b hb, (h.2.2.1 b (hI.2.2.2.2.2.2.2.2.2.2 b hb)).1⟩, h.2.2.2.2.1⟩
/-- the same, but that symbols of the twin may have become done -/
def NXw (nu : pN) (S S' : nS) : Prop := SMW S S' ∧ (∀ b, S.dn b → S'.dn b ∧ SMN nu S S' b) ∧ ∀ a j, S.tl a j → S'.tl a j
theorem NX.w (h : NX nu S S') : NXw nu S S' := ⟨h.1.w, h.2⟩
theorem NXw.tr {S1 : nS} (h : NXw nu S S') (h' : NXw nu S' S1) (hu : S'.u = S.u ∨ S.un ≤ S'.u) : NXw nu S S1 := ⟨h.1.tr h'.1 hu, fun b hb => ⟨(h'.2.1 b (h.2.1 b hb).1).1, (h.2.1 b hb).2.tr (h'.2.1 b (h.2.1 b hb).1).2⟩, fun a j e => h'.2.2 a j (h.2.2 a j e)⟩
/-- what follows does not count rooms of units -/
theorem NXw.trr {S1 : nS} (h : NXw nu S S') (h' : NXw nu S' S1) (h6 : ∀ x, w_a S1.t 12 0 61 x = w_a S'.t 12 0 61 x) : NXw nu S S1 := by
  obtain ⟨⟨a1, a2, a3, a4, ⟨a5, a6⟩, a7⟩, a8, a9⟩ := h
  obtain ⟨⟨b1, b2, b3, b4, ⟨b5, b6⟩, b7⟩, b8, b9⟩ := h'
  refine ⟨⟨fun s A hs => ?_, fun s hs k hk => (b2 s (by omega) k hk).trans (a2 s hs k hk), by omega, trivial, ⟨by omega, fun x hx => ⟨(b6 x (by omega)).1.trans (a6 x hx).1, fun hne => (h6 x).trans ((a6 x hx).2 hne)⟩⟩, fun q hq => b7 q (a7 q hq)⟩, fun b hb => ⟨(b8 b (a8 b hb).1).1, (a8 b hb).2.tr (b8 b (a8 b hb).1).2⟩, fun a j e => b9 a j (a9 a j e)⟩
  obtain ⟨c1, c2⟩ := a1 s A hs
  obtain ⟨d1, d2⟩ := b1 s A c1
  exact ⟨d1, fun k => ⟨(d2 k).1.trans (c2 k).1, fun h4 => ((d2 k).2 h4).trans ((c2 k).2 h4)⟩⟩
/-- what a child brought: along a link of the node or of one behind -/
theorem HM.bk {y : Nat} {J' : List Nat} (h : HM D V nu tn rt p J cr S0 S T T') (hy : y ∈ S.vs ∧ y ∉ S0.vs) (hJ : (y = p → j ∈ J') ∧ ∀ i ∈ J, i ∈ J') (hb : NPO D V nu tn rt q (S.go y j) A G rc w' r' t') : ∃ (S' : nS) (T1 : Int), (rc = .inl none ∧ r' = .inl none ∧ S'.w = w' ∧ S'.t = t') ∧ HM D V nu tn rt p J' cr S0 S' (min T T1) (min T' T1) ∧ NX nu S S' ∧ (q ∈ S'.vs ∧ S'.dn q ∧ ¬ S'.tl q 7) ∧ FTK T1 ∧ (S'.u = S.u ∧ ∀ b ∈ S.vs, SMN nu S S' b ∧ b ∈ S'.vs) ∧ A S' ∧ (T1 = NOF → G S') := by
  obtain ⟨S', T1, e, hI, hN, ⟨hq1, hq2, hq3, hu⟩, ⟨k1, k2, k3⟩, ⟨hT, f1, f2⟩, hA, hG⟩ := hb
  obtain ⟨a0, ⟨⟨a1, a2⟩, a3, b1, b2, b3, b4, ⟨b5, b5b⟩, b6⟩, ⟨c1, c2, c3, c4⟩, ⟨⟨d1, d1b⟩, ⟨d2, d2b⟩, d3, d3b⟩, ⟨d4, d5⟩, d6, d7⟩ := h
  obtain ⟨⟨g1, g2⟩, g3, g4, g5, g6, g7, ⟨g8, g8b⟩, g9⟩ := hN
  refine ⟨S', T1, e, ⟨hI, ⟨⟨a1.tr g1, a2.tr g2⟩, a3.tr g3 b6, fun b hb => ⟨(b1 b hb).1.tr (g4 b (b2 b hb)).1, fun i hi => ?_, fun e => (b1 b hb).2.2 ((g4 b (b2 b hb)).2.2 e)⟩, fun b hb => g5 b (b2 b hb), fun a i hi => g6 a i (.inl (b3 a i hi)), fun a ha => g7 a (b4 a ha), ⟨Nat.le_trans b5 g8, fun a ha => g8b a (b5b a ha)⟩, HN.uu b6 g9 a3.2.2.2.2.1.1⟩, ⟨g5 p c1, c2, fun e => c3 ((g4 p c1).2.2 e), fun i hi => ?_⟩, ⟨⟨?_, d1b⟩, ⟨?_, d2b⟩, ?_, d3b⟩, ⟨d4.min hT, d5.min hT⟩, ?_, ?_⟩, ⟨g3, fun b hb => ⟨g7 b hb, (g4 b (a0.2.2.2.2.2.2.2.2.2.2 b hb)).1⟩, fun a i hi => g6 a i (.inl hi)⟩, ⟨hq1, hq2, hq3⟩, hT, ⟨hu, fun b hb => ⟨(g4 b hb).1, g5 b hb⟩⟩, hA, hG⟩
  · rcases (g4 b (b2 b hb)).2.1 i hi with h | ⟨h, -⟩
    · exact (b1 b hb).2.1 i h
    · rw [h] at hb
      exact absurd hb hy.2
  · rcases (g4 p c1).2.1 i hi with h | ⟨h1, h⟩
    · exact hJ.2 i (c4 i h)
    · rw [h]; exact hJ.1 h1.symm
  · have : S'.sn + S.vs.length ≤ S.sn + S'.vs.length := k1
    omega
  · have : S'.am + 2 * S.vs.length ≤ S.am + 2 * S'.vs.length := k2
    omega
  · have : S'.un + S.vs.length ≤ S.un + S'.vs.length := k3
    omega
  · have : fcc S'.w = min (fcc S.w) T1 := f1
    rw [this, d6]
    omega
  · have : fct S'.t = min (fct S.t) T1 := f2
    rw [this, d7]
    omega
/-- a method's end -/
theorem HM.en (h : HM D V nu tn rt p J cr S0 S T T) (h7 : 7 ∉ J) (hu : S.u = S0.u) (hA : A (S.fi p)) (hG : T = NOF → G (S.fi p)) : NPO D V nu tn rt p S0 A G (.inl none) S.w (.inl none) S.t := by
  obtain ⟨⟨i1, i2, i3, i4, i5, i6, i7, ⟨i8, i9, i10, i11⟩⟩, ⟨⟨a1, a2⟩, a3, b1, b2, b3, b4, ⟨b5, b5b⟩, b6⟩, ⟨c1, c2, c3, c4⟩, ⟨⟨d1, d1b⟩, ⟨d2, d2b⟩, d3, d3b⟩, ⟨d4, d5⟩, d6, d7⟩ := h
  refine ⟨S.fi p, T, ⟨rfl, rfl, rfl, rfl⟩, ⟨i1, i2, i3, i4, i5, i6, i7, ⟨i8, i9, i10, fun a ha => ?_⟩⟩, ⟨⟨a1, a2⟩, a3, fun b hb => ⟨(b1 b hb).1, (b1 b hb).2.1, fun e => ?_⟩, b2, b3, fun a ha => .inl (b4 a ha), ⟨b5, b5b⟩, b6⟩, ⟨c1, .inr rfl, fun e => h7 (c4 7 e), hu⟩, ⟨?_, ?_, ?_⟩, ⟨d4, d6, d7⟩, hA, hG⟩
  · rcases ha with ha | ha
    · exact i11 a ha
    · rw [ha]; exact c1
  · rcases e with e | e
    · exact (b1 b hb).2.2 e
    · rw [e] at hb
      exact absurd hb c2
  · show S.sn + S0.vs.length ≤ S0.sn + S.vs.length
    omega
  · show S.am + 2 * S0.vs.length ≤ S0.am + 2 * S.vs.length
    omega
  · show S.un + S0.vs.length ≤ S0.un + S.vs.length
    omega
end HMS
