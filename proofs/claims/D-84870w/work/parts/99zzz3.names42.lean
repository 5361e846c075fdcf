/-! ===== ROUNDS, part 44: items of a declaration ===== -/
def nS.ts (S : nS) (t' : wS) : nS := (S.1, t', S.2.2.1, (S.ys, S.sn + 1), S.2.2.2.2)
def nS.dz (S : nS) (w' : wS) (s A : Nat) (kc' : List Nat) : nS := (w', S.t, S.2.2.1, (ysU S.ys s A, S.sn), (kc', S.kt), S.2.2.2.2.2)
def nS.tk (S : nS) (t' : wS) (s : Nat) : nS := (S.1, t', S.2.2.1, S.2.2.2.1, (S.kc, s :: S.kt), S.2.2.2.2.2)
def nS.lk (S : nS) (w' : wS) (s : Nat) : nS := (w', S.t, S.2.2.1, S.2.2.2.1, (s :: S.kc, S.kt), S.2.2.2.2.2)
def nS.fl (S : nS) (P : Nat → Prop) : nS := (S.1, S.2.1, S.2.2.1, S.2.2.2.1, S.2.2.2.2.1, S.2.2.2.2.2.1, S.vs, S.tl, fun a => S.dn a ∨ P a)
section ITM
variable {D : pD} {V : pV} {nu : pN} {tn : Nat → Prop} {rt p q n r d j k s u y A cr cr' : Nat} {J : List Nat} {S S0 : nS} {w w2 w' t t' : wS} {x1 v : Option Nat} {x2 x3 x : Int32} {T T' : Int} {rs : kx_Rs} {al' : List Nat} {kr kc' : List Nat} {ys ys' : Nat → Option Nat}
theorem HM.crd (h : HM D V nu tn rt p J cr S0 S T T') (h1 : cr' % 2 ≤ cr % 2) (h2 : cr' / 2 ≤ cr / 2) : HM D V nu tn rt p J cr' S0 S T T' := by
  obtain ⟨a, b, c, ⟨⟨k1, k2⟩, ⟨k3, k4⟩, k5, k6⟩, e⟩ := h
  exact ⟨a, b, c, ⟨⟨by omega, k2⟩, ⟨by omega, k4⟩, by omega, k6⟩, e⟩
/-- a part is gone to, as one of the node's own -/
theorem HM.add (h : HM D V nu tn rt p J cr S0 S T T') (hc : cr % 2 = 0) (hs : STR D V nu tn rt) (hy : y ∈ S.vs ∧ y ∉ S0.vs) (ht : ¬ S.tl y j) (hj7 : 3 ≤ j ∧ j ≤ 7) (hq : V.2.1 y j = some q) (hnu : nu q ≠ none) (hk : ¬ KDN nu q) (hJ : y = p → j ∈ J) : HM D V nu tn rt p J (cr + 5) S0 ((S.go y j).at q) T T' ∧ NX nu S ((S.go y j).at q) ∧ (q ∉ S.vs ∧ (∀ i, ¬ ((S.go y j).at q).tl q i) ∧ ¬ ((S.go y j).at q).dn q) ∧ ∀ b, SMN nu S ((S.go y j).at q) b := by
  obtain ⟨g1, g2⟩ := h.1.go hs hy.1 ht hj7 hq hnu hk
  have hH := HM.start g1 g2
  have hI : IVN D V nu tn rt ((S.go y j).at q) := hH.1
  obtain ⟨-, ⟨⟨i1, i2⟩, i3, i4, i5, i6, i7, i8, i9⟩, ⟨j1, j2, j3, j4⟩, ⟨⟨k1, k2⟩, ⟨k3, k4⟩, k5, k6⟩, l1, l2, l3⟩ := h
  have hl : (q :: S.vs).length = S.vs.length + 1 := rfl
  refine ⟨⟨hI, ⟨⟨i1, i2⟩, i3, fun b hb => ⟨(i4 b hb).1, fun i hi => ?_, (i4 b hb).2.2⟩, fun b hb => List.mem_cons_of_mem _ (i5 b hb), fun a i hi => .inl (i6 a i hi), i7, i8, i9⟩, ⟨List.mem_cons_of_mem _ j1, j2, j3, fun i hi => ?_⟩, ⟨⟨?_, k2⟩, ⟨?_, k4⟩, ?_, k6⟩, l1, l2, l3⟩, ⟨⟨fun s A h => ⟨h, fun _ => ⟨rfl, fun _ => rfl⟩⟩, fun _ _ _ _ => rfl, Nat.le_refl _, fun _ h => .inl h, ⟨Nat.le_refl _, fun _ _ => ⟨rfl, fun _ => rfl⟩⟩, fun _ h => h⟩, fun b hb => ⟨hb, ⟨⟨rfl, rfl⟩, fun _ _ _ _ _ _ => rfl⟩⟩, fun a i hi => .inl hi⟩, ⟨g2.1.1, g2.2.1, hH.2.2.1.2.2.1⟩, fun b => ⟨⟨rfl, rfl⟩, fun _ _ _ _ _ _ => rfl⟩⟩
  · rcases hi with hi | ⟨e, -⟩
    · exact (i4 b hb).2.1 i hi
    · rw [e] at hb
      exact absurd hb hy.2
  · rcases hi with hi | ⟨e, e2⟩
    · exact j4 i hi
    · rw [e2]
      exact hJ e.symm
  · show S.sn + S0.vs.length + (cr + 5) % 2 ≤ S0.sn + (q :: S.vs).length
    omega
  · show S.am + 2 * S0.vs.length + (cr + 5) / 2 ≤ S0.am + 2 * (q :: S.vs).length
    omega
  · show S.un + S0.vs.length + (cr + 5) % 2 ≤ S0.un + (q :: S.vs).length
    omega
/-- what a part's own method did -/
theorem HM.cat {q : Nat} {Jx : List Nat} {S1 : nS} {T1 T1' : Int} (h : HM D V nu tn rt p J cr S0 S T T') (hc : cr % 2 = 0) (hy : y ∈ S.vs ∧ y ∉ S0.vs) (hJ : y = p → j ∈ J) (hx : HM D V nu tn rt q Jx 5 (S.go y j) S1 T1 T1') : HM D V nu tn rt p J (cr + 5) S0 S1 (min T T1) (min T' T1') ∧ NX nu S S1 ∧ (∀ b ∈ S.vs, SMN nu S S1 b ∧ b ∈ S1.vs ∧ (S1.dn b → S.dn b)) ∧ (q ∈ S1.vs ∧ q ∉ S.vs ∧ ¬ S1.dn q ∧ ∀ i, S1.tl q i → i ∈ Jx) := by
  obtain ⟨a0, ⟨⟨a1, a2⟩, a3, b1, b2, b3, b4, ⟨b5, b5b⟩, b6⟩, ⟨c1, c2, c3, c4⟩, ⟨⟨d1, d1b⟩, ⟨d2, d2b⟩, d3, d3b⟩, ⟨d4, d5⟩, d6, d7⟩ := h
  obtain ⟨hI, ⟨⟨g1, g2⟩, g3, g4, g5, g6, g7, ⟨g8, g8b⟩, g9⟩, ⟨q1, q2, q3, q4⟩, ⟨⟨k1, -⟩, ⟨k2, -⟩, k3, -⟩, ⟨l1, l2⟩, l3, l4⟩ := hx
  have k1 : S1.sn + S.vs.length + 1 ≤ S.sn + S1.vs.length := k1
  have k2 : S1.am + 2 * S.vs.length + 2 ≤ S.am + 2 * S1.vs.length := k2
  have k3 : S1.un + S.vs.length + 1 ≤ S.un + S1.vs.length := k3
  have l3 : fcc S1.w = min (fcc S.w) T1 := l3
  have l4 : fct S1.t = min (fct S.t) T1' := l4
  refine ⟨⟨hI, ⟨⟨a1.tr g1, a2.tr g2⟩, a3.tr g3 b6, fun b hb => ⟨(b1 b hb).1.tr (g4 b (b2 b hb)).1, fun i hi => ?_, fun e => (b1 b hb).2.2 ((g4 b (b2 b hb)).2.2 e)⟩, fun b hb => g5 b (b2 b hb), fun a i hi => g6 a i (.inl (b3 a i hi)), fun a ha => g7 a (b4 a ha), ⟨Nat.le_trans b5 g8, fun a ha => g8b a (b5b a ha)⟩, HN.uu b6 g9 a3.2.2.2.2.1.1⟩, ⟨g5 p c1, c2, fun e => c3 ((g4 p c1).2.2 e), fun i hi => ?_⟩, ⟨⟨by omega, d1b⟩, ⟨by omega, d2b⟩, by omega, d3b⟩, ⟨d4.min l1, d5.min l2⟩, by omega, by omega⟩, ⟨g3, fun b hb => ⟨g7 b hb, (g4 b (a0.2.2.2.2.2.2.2.2.2.2 b hb)).1⟩, fun a i hi => g6 a i (.inl hi)⟩, fun b hb => ⟨(g4 b hb).1, g5 b hb, (g4 b hb).2.2⟩, q1, q2, q3, q4⟩
  · rcases (g4 b (b2 b hb)).2.1 i hi with h | ⟨h, -⟩
    · exact (b1 b hb).2.1 i h
    · rw [h] at hb
      exact absurd hb hy.2
  · rcases (g4 p c1).2.1 i hi with h | ⟨h1, h⟩
    · exact c4 i h
    · rw [h]
      exact hJ h1.symm
/-- they are done -/
theorem HM.fin {P : Nat → Prop} (h : HM D V nu tn rt p J cr S0 S T T') (hy : ∀ y, P y → y ∈ S.vs ∧ y ∉ S0.vs ∧ y ≠ p) : HM D V nu tn rt p J cr S0 (S.fl P) T T' ∧ NX nu S (S.fl P) ∧ ∀ b, SMN nu S (S.fl P) b := by
  obtain ⟨⟨a1, a2, a3, a4, a5, a6, a7, ⟨b1, b2, b3, b4⟩⟩, ⟨i1, i3, i4, i5, i6, i7, i8, i9⟩, ⟨j1, j2, j3, j4⟩, k1, l1, l2, l3⟩ := h
  refine ⟨⟨⟨a1, a2, a3, a4, a5, a6, a7, ⟨b1, b2, b3, fun a ha => ?_⟩⟩, ⟨i1, i3, fun b hb => ⟨(i4 b hb).1, (i4 b hb).2.1, fun e => ?_⟩, i5, i6, fun a ha => .inl (i7 a ha), i8, i9⟩, ⟨j1, j2, fun e => ?_, j4⟩, k1, l1, l2, l3⟩, ⟨SMS.rf, fun b hb => ⟨.inl hb, SMN.rf⟩, fun _ _ h => h⟩, fun _ => SMN.rf⟩
  · rcases ha with ha | ha
    · exact b4 a ha
    · exact (hy a ha).1
  · rcases e with e | e
    · exact (i4 b hb).2.2 e
    · exact absurd hb (hy b e).2.1
  · rcases e with e | e
    · exact j3 e
    · exact (hy p e).2.2 rfl
/-- the twin makes a symbol; MeetingHouse has none yet -/
theorem HM.ts1 (h : HM D V nu tn rt p J cr S0 S T T') (hcr : S.sn + S0.vs.length + 1 ≤ S0.sn + S.vs.length) (hy : y ∉ S0.vs ∧ ¬ S.dn y) (hnu : nu y = some (n, r, d)) (hn : n < 14000) (hst : STR D V nu tn rt) (ht : DTs V tn S n t') : HM D V nu tn rt p J (cr - cr % 2) S0 (S.ts t') T T' ∧ NX nu S (S.ts t') ∧ ∀ b, b ≠ y → SMN nu S (S.ts t') b := by
  obtain ⟨ta, t60, t57, t61, t51, ⟨⟨ti, ti56⟩, ti59, ti62, ti64, ti65⟩, tT, tF, t31⟩ := ht
  obtain ⟨⟨⟨a1, a2⟩, ⟨a3, a4⟩, ⟨⟨b1, b2⟩, ⟨b3, b4⟩, b5, b6⟩, ⟨c1, c2, ⟨z, c3, c4, c5, c6⟩, c7, c8⟩, ⟨d1, d2, d3, d4⟩, ⟨⟨e1, e2⟩, e3, e4, e5, e6⟩, ⟨f1, f2⟩, g1⟩, ⟨⟨i1, i2⟩, i3, i4, i5, i6, i7, i8, i9⟩, j1, ⟨⟨k1, k2⟩, ⟨k3, k4⟩, k5, k6⟩, l1, l2, l3⟩ := h
  have hvl := hst.2.2.2.2.2.2 S.vs g1.1.1 (fun a ha => (g1.1.2 a ha).1)
  have hsn : S.sn ≤ 5502 := by omega
  have hlt : ∀ s A', S.ys s = some A' → s < S.sn := fun s A' hs => (c1 s A' hs).1.1
  have h46 : ∀ s A', S.ys s = some A' → w_a t' 12 0 46 s = w_a S.t 12 0 46 s := fun s A' hs => ta 46 (by decide) (by decide) s (by have := hlt s A' hs; omega)
  have hly : ∀ s, s < S.sn → lyk t' s = lyk S.t s := fun s hs => by
    unfold lyk
    rw [ta 46 (by decide) (by decide) s (by omega), ta 48 (by decide) (by decide) s (by omega)]
  have h51 : ∀ s, s < S.sn → w_a t' 12 0 51 s = w_a S.t 12 0 51 s := fun s hs => ta 51 (by decide) (by decide) s (by omega)
  have h52 : ∀ s, s < S.sn → w_a t' 12 0 52 s = w_a S.t 12 0 52 s := fun s hs => ta 52 (by decide) (by decide) s (by omega)
  have hl2 : lyk t' S.sn ≤ 2 := lyk_le
  obtain ⟨zu, u1, u2, u3⟩ := d2 S.u b6
  have hun : S.un ≤ 5501 := by omega
  have hI : IVN D V nu tn rt (S.ts t') := by
    refine ⟨⟨a1, tT⟩, ⟨a3, a4⟩, ⟨⟨ti, ?_⟩, ⟨ti59.trans b3, b4⟩, ti62.trans b5, b6⟩, ⟨fun s A' hs => ?_, c2, SERn.cg (t := S.t) (w := S.w) ⟨⟨z, c3, c4, c5, fun q hq => ⟨Nat.le_succ_of_le (c6 q hq).1, (c6 q hq).2⟩⟩, c7, c8⟩ (fun _ _ _ => rfl) rfl h46⟩, ⟨⟨?_, fun x hx hx2 => ?_⟩, fun x hx => ?_, fun s hs => ?_, fun s s' hss hs' he l l' hl hl' g4 g5 => ?_⟩, ⟨⟨e1, e2⟩, ti56.trans e3, KNr.cg2 (fun j _ => congrFun t57 j) e4, Nat.le_succ_of_le e5, fun s hs => ?_⟩, ⟨f1, ?_⟩, g1⟩
    · show S.sn + 1 ≤ 2 + S.vs.length
      omega
    · exact ⟨⟨Nat.lt_succ_of_lt (hlt s A' hs), (c1 s A' hs).1.2⟩, (c1 s A' hs).2.cg (fun _ => rfl) (fun _ _ => rfl) (fun k hk => ta k hk.1 hk.2 s (by have := hlt s A' hs; omega)) (fun sp P hP => h46 sp P hP) (fun _ _ h => h) (c1 s A' hs).2.1.2⟩
    · show w_a t' 12 0 60 0 = -1
      rw [t60]
      exact d1.1
    · obtain ⟨y, q1, q2⟩ := d1.2 x hx hx2
      exact ⟨y, q1, (congrFun t60 x).trans q2⟩
    · have hx : x < S.un := hx
      by_cases ex : x = S.u
      · subst ex
        refine ⟨zu + lyk t' S.sn, ?_, ?_, fun s hs hu => ?_⟩
        · show zu + lyk t' S.sn ≤ 2 * (S.sn + 1)
          omega
        · show w_a t' 12 0 61 S.u = i_ (zu + lyk t' S.sn : Nat)
          rw [t61.1, u2, i_add]
          congr 1
        · by_cases es : s = S.sn
          · subst es
            exact ⟨zu, t51.2.trans u2, Nat.le_refl _⟩
          · have hs' : s < S.sn := by have : s < S.sn + 1 := hs; omega
            obtain ⟨l, q1, q2⟩ := u3 s hs' ((h51 s hs').symm.trans hu)
            exact ⟨l, (h52 s hs').trans q1, by show l + lyk t' s ≤ _; rw [hly s hs']; omega⟩
      · obtain ⟨zx, q0, q1, q2⟩ := d2 x hx
        refine ⟨zx, by show zx ≤ 2 * (S.sn + 1); omega, (t61.2 x ex).trans q1, fun s hs hu => ?_⟩
        by_cases es : s = S.sn
        · subst es
          have hu : w_a t' 12 0 51 S.sn = i_ x := hu
          rw [t51.1] at hu
          have := (i_eq (by omega) (by omega)).mp hu
          omega
        · have hs' : s < S.sn := by have : s < S.sn + 1 := hs; omega
          obtain ⟨l, q3, q4⟩ := q2 s hs' ((h51 s hs').symm.trans hu)
          exact ⟨l, (h52 s hs').trans q3, by show l + lyk t' s ≤ _; rw [hly s hs']; exact q4⟩
    · by_cases es : s = S.sn
      · subst es
        exact ⟨S.u, b6, t51.1⟩
      · have hs' : s < S.sn := by have : s < S.sn + 1 := hs; omega
        obtain ⟨x, q1, q2⟩ := d3 s hs'
        exact ⟨x, q1, (h51 s hs').trans q2⟩
    · have hs1 : s < S.sn := by have : s' < S.sn + 1 := hs'; omega
      show l + lyk t' s ≤ l'
      rw [hly s hs1]
      have g4' := (h52 s hs1).symm.trans g4
      by_cases es : s' = S.sn
      · subst es
        have hu : w_a S.t 12 0 51 s = i_ S.u := (h51 s hs1).symm.trans (he.trans t51.1)
        obtain ⟨l0, q1, q2⟩ := u3 s hs1 hu
        have g5' : i_ zu = (i_ l' : Int32) := (t51.2.trans u2).symm.trans g5
        have e1 : i_ l0 = (i_ l : Int32) := q1.symm.trans g4'
        have e2 := (i_eq (by omega) (by omega)).mp g5'
        have e3 := (i_eq (by omega) (by omega)).mp e1
        omega
      · have hs2 : s' < S.sn := by have : s' < S.sn + 1 := hs'; omega
        exact d4 s s' hss hs2 ((h51 s hs1).symm.trans (he.trans (h51 s' hs2))) l l' hl hl' g4' ((h52 s' hs2).symm.trans g5)
    · obtain ⟨q1, q2, x, k', q3, q4⟩ := e6 s hs
      exact ⟨Nat.lt_succ_of_lt q1, q2, x, k', (h51 s q1).trans q3, q4.cg t60⟩
    · show fkk (w_i t' 12 0 64)
      rw [ti64]
      exact f2
  have hsm : ∀ b, b ≠ y → SMN nu S (S.ts t') b := fun b hbp => ⟨⟨rfl, rfl⟩, fun n' r' d' e k hk => t31 k n' hk (fun en => by
    subst en
    exact hbp (hst.2.2.2.1 _ _ _ _ _ _ _ e hnu (by omega)))⟩
  have hSM : SMS S (S.ts t') := ⟨fun s A' hs => ⟨hs, fun k => ⟨rfl, fun _ => rfl⟩⟩, fun s hs k hk => ta k hk.1 hk.2 s (by omega), Nat.le_succ _, fun s hs => .inl hs, ⟨Nat.le_refl _, fun x hx => ⟨congrFun t60 x, fun hne => t61.2 x hne⟩⟩, fun _ h => h⟩
  have hft : fct t' = fct S.t := by unfold fct; rw [ti64, ti65]
  refine ⟨⟨hI, ⟨⟨i1, i2.tr tF⟩, i3.tr hSM i9, fun b hb => ⟨(i4 b hb).1.tr (hsm b (fun e => hy.1 (by rw [← e]; exact hb))), (i4 b hb).2⟩, i5, i6, i7, i8, i9⟩, j1, ⟨⟨?_, k2⟩, ⟨?_, k4⟩, ?_, k6⟩, l1, l2, ?_⟩, ⟨hSM, fun b hb => ⟨hb, hsm b (fun e => hy.2 (by rw [← e]; exact hb))⟩, fun _ _ h => h⟩, hsm⟩
  · show S.sn + 1 + S0.vs.length + (cr - cr % 2) % 2 ≤ S0.sn + S.vs.length
    omega
  · show S.am + 2 * S0.vs.length + (cr - cr % 2) / 2 ≤ S0.am + 2 * S.vs.length
    omega
  · show S.un + S0.vs.length + (cr - cr % 2) % 2 ≤ S0.un + S.vs.length
    omega
  · show fct t' = _
    rw [hft]
    exact l3
/-- a symbol of MeetingHouse for one that the twin has -/
theorem HM.dz (h : HM D V nu tn rt p J cr S0 S T T') (hA : FRA D S A) (hy : y ∉ S0.vs ∧ ¬ S.dn y) (hst : STR D V nu tn rt) (hs : S.ys s = none) (hss : s < S.sn) (h0 : S0.sn ≤ s) (hla : nrt S.t s → ∀ s' A', S.ys s' = some A' → nrt S.t s' → s' < s) (hck : nrt S.t s → ∀ q ∈ S.ck, q.1 ≤ s)
    (hS : SSO D.1 w' S.al S.am) (ho : w_o w' = w_o S.w) (h14i : ∀ a k, w_i w' 14 a k = w_i S.w 14 a k) (h14p : ∀ a k, (k = 16 ∧ a = y) ∨ w_p w' 14 a k = w_p S.w 14 a k) (h15 : ∀ A', A' ≠ A → ∀ k, w_i w' 15 A' k = w_i S.w 15 A' k ∧ w_p w' 15 A' k = w_p S.w 15 A' k) (h5 : w_i w' 5 0 4 = w_i S.w 5 0 4 + 1) (hb : w_i w' 15 A 3 = w_i S.w 5 0 4) (hkc : (kc' = S.kc ∧ w_p w' 5 0 3 = w_p S.w 5 0 3) ∨ (kc' = s :: S.kc ∧ w_p w' 5 0 3 = some A ∧ w_p w' 15 A 4 = w_p S.w 5 0 3)) (h2 : w_i w' 2 0 1 = w_i S.w 2 0 1 ∧ w_i w' 2 0 2 = w_i S.w 2 0 2) (hFN : FN S.w w')
    (hR : RS1 D V nu w' S.t (ysU S.ys s A) s A) : HM D V nu tn rt p J cr S0 (S.dz w' s A kc') T T' ∧ NXw nu S (S.dz w' s A kc') ∧ ∀ b, b ≠ y → SMN nu S (S.dz w' s A kc') b := by
  obtain ⟨⟨⟨a1, a2⟩, ⟨a3, a4⟩, ⟨⟨b1, b2⟩, ⟨b3, b4⟩, b5, b6⟩, ⟨c1, c2, ⟨z, c3, c4, c5, c6⟩, c7, c8⟩, d1, ⟨⟨e1, e2⟩, e3, e4, e5, e6⟩, ⟨f1, f2⟩, g1⟩, ⟨⟨i1, i2⟩, i3, i4, i5, i6, i7, i8, i9⟩, j1, ⟨⟨k1, k2⟩, ⟨k3, k4⟩, k5, k6⟩, l1, l2, l3⟩ := h
  have hvl := hst.2.2.2.2.2.2 S.vs g1.1.1 (fun a ha => (g1.1.2 a ha).1)
  have ham : S.am ≤ 11002 := by omega
  have hz1 : z + 1 ≤ S.am := by
    obtain ⟨z', e1, e2⟩ := hA.1.2
    have := (i_eq (by omega) (by omega)).mp (c3.symm.trans e1)
    omega
  have hne : ∀ s A', S.ys s = some A' → A' ≠ A := fun s A' hs e => hA.2.1 s (by rw [← e]; exact hs)
  have hyo : ∀ s' A', S.ys s' = some A' → ysU S.ys s A s' = some A' := fun s' A' hs' => by
    unfold ysU
    rw [if_neg (fun e => by rw [e, hs] at hs'; cases hs')]
    exact hs'
  have hys : ysU S.ys s A s = some A := by unfold ysU; rw [if_pos rfl]
  have hyc : ∀ s' A', ysU S.ys s A s' = some A' → (s' = s ∧ A' = A) ∨ S.ys s' = some A' := fun s' A' hs => by
    unfold ysU at hs
    by_cases e : s' = s
    · rw [if_pos e] at hs
      cases hs
      exact .inl ⟨e, rfl⟩
    · rw [if_neg e] at hs
      exact .inr hs
  have hwl : ∀ a, w_l S.w D.1.2.1 15 a → w_l w' D.1.2.1 15 a := fun a ha => by
    unfold w_l at ha ⊢
    rw [ho]
    exact ha
  have hse : ∀ s A', S.ys s = some A' → ser w' A' = ser S.w A' := fun s A' hs => by
    unfold ser
    rw [(h15 A' (hne s A' hs) 3).1]
  have hsA : ser w' A = z := by
    unfold ser
    rw [hb, c3, i_toInt (by omega)]
  have hysn : ∀ s', S.ys s' ≠ none → ysU S.ys s A s' ≠ none := fun s' hs => by
    cases e : S.ys s' with
    | none => exact absurd e hs
    | some A' =>
      rw [hyo s' A' e]
      simp
  have hKC : CHN w' (ysU S.ys s A) kc' (w_p w' 5 0 3) ∧ ∀ s' ∈ kc', ysU S.ys s A s' ≠ none := by
    have hold : CHN w' (ysU S.ys s A) S.kc (w_p S.w 5 0 3) := by
      refine CHN.yz (fun s hs => ?_) (e1.cg (fun s A' hs => (h15 A' (hne s A' hs) 4).2))
      cases e : S.ys s with
      | none => exact absurd e (e2 s hs)
      | some A' => exact hyo s A' e
    rcases hkc with ⟨k1, k2⟩ | ⟨k1, k2, k3⟩
    · rw [k1, k2]
      exact ⟨hold, fun s hs => hysn s (e2 s hs)⟩
    · rw [k1, k2]
      refine ⟨⟨hys.symm, A, hys, by rw [k3]; exact hold⟩, fun s hs => ?_⟩
      rcases List.mem_cons.mp hs with e | e
      · rw [e, hys]
        simp
      · exact hysn s (e2 s e)
  have hI : IVN D V nu tn rt (S.dz w' s A kc') := by
    refine ⟨⟨a1.o ho h14i (fun a k hk => (h14p a k).resolve_left (fun z => hk z.1)), a2⟩, ⟨hS, a4⟩, ⟨⟨b1, b2⟩, ⟨b3, b4⟩, b5, b6⟩, ⟨fun s1 A' hs => ?_, fun s1 s2 A' hs hs' => ?_, ⟨z + 1, ?_, hz1, fun s1 A' hs hr => ?_, fun q hq => ?_⟩, fun s1 A1 s2 A2 hs1 hs2 hr hr' hlt => ?_, fun q hq s1 A' hs1 hr => ?_⟩, d1, ⟨hKC, e3, e4, e5, fun s1 hs1 => ⟨(e6 s1 hs1).1, hysn s1 (e6 s1 hs1).2.1, (e6 s1 hs1).2.2⟩⟩, ⟨?_, f2⟩, g1⟩
    · rcases hyc s1 A' hs with ⟨e, e'⟩ | h1
      · subst e e'
        exact ⟨⟨hss, hA.1.1⟩, hR⟩
      · exact ⟨(c1 s1 A' h1).1, (c1 s1 A' h1).2.cg (fun k => (h15 A' (hne s1 A' h1) k).1) (fun k _ => (h15 A' (hne s1 A' h1) k).2) (fun _ _ => rfl) (fun _ _ _ => rfl) hyo (hwl A' (c1 s1 A' h1).2.1.2)⟩
    · rcases hyc s1 A' hs with ⟨e, e'⟩ | h1
      · rcases hyc s2 A' hs' with ⟨e2, -⟩ | h2'
        · omega
        · exact absurd e' (hne s2 A' h2')
      · rcases hyc s2 A' hs' with ⟨e2, e'⟩ | h2'
        · exact absurd e' (hne s1 A' h1)
        · exact c2 s1 s2 A' h1 h2'
    · show w_i w' 5 0 4 = i_ (z + 1 : Nat)
      rw [h5, c3, i_1, i_add]
      congr 1
    · show 0 ≤ ser w' A' ∧ ser w' A' < ((z + 1 : Nat) : Int)
      rcases hyc s1 A' hs with ⟨e, e'⟩ | h1
      · rw [e', hsA]
        omega
      · have := c5 s1 A' h1 hr
        have e2 : ser w' A' = ser S.w A' := hse s1 A' h1
        omega
    · have := c6 q hq
      show q.1 ≤ S.sn ∧ q.2 ≤ ((z + 1 : Nat) : Int)
      omega
    · show ser w' A1 < ser w' A2
      rcases hyc s1 A1 hs1 with ⟨e, e'⟩ | h1
      · rcases hyc s2 A2 hs2 with ⟨e2, -⟩ | h2'
        · omega
        · have := hla (by rw [← e]; exact hr) s2 A2 h2' hr'
          omega
      · rcases hyc s2 A2 hs2 with ⟨e2, e'⟩ | h2'
        · rw [e', hsA, hse s1 A1 h1]
          exact (c5 s1 A1 h1 hr).2
        · rw [hse s1 A1 h1, hse s2 A2 h2']
          exact c7 s1 A1 s2 A2 h1 h2' hr hr' hlt
    · have hq6 := c6 q hq
      show s1 < q.1 ↔ ser w' A' < q.2
      rcases hyc s1 A' hs1 with ⟨e, e'⟩ | h1
      · have := hck (by rw [← e]; exact hr) q hq
        rw [e, e', hsA]
        omega
      · rw [hse s1 A' h1]
        exact c8 q hq s1 A' h1 hr
    · show fkk (w_i w' 2 0 1)
      rw [h2.1]
      exact f1
  have hsm : ∀ b, b ≠ y → SMN nu S (S.dz w' s A kc') b := fun b hbp => ⟨⟨(h14p b 16).resolve_left (fun z => hbp z.2), h14i b 10⟩, fun _ _ _ _ _ _ => rfl⟩
  have hW1 : ∀ s1 A', S.ys s1 = some A' → ysU S.ys s A s1 = some A' ∧ ∀ k, w_i w' 15 A' k = w_i S.w 15 A' k ∧ (k ≠ 4 → w_p w' 15 A' k = w_p S.w 15 A' k) := fun s1 A' hs => ⟨hyo s1 A' hs, fun k => ⟨(h15 A' (hne s1 A' hs) k).1, fun _ => (h15 A' (hne s1 A' hs) k).2⟩⟩
  have hSW : SMW S (S.dz w' s A kc') := ⟨hW1, fun _ _ _ _ => rfl, Nat.le_refl _, trivial, ⟨Nat.le_refl _, fun x hx => ⟨rfl, fun _ => rfl⟩⟩, fun _ h => h⟩
  have hS0 : SMS S0 (S.dz w' s A kc') := by
    have h3 := i3.w.tr hSW i9
    refine ⟨h3.1, h3.2.1, h3.2.2.1, fun s1 hs1 => ?_, h3.2.2.2.2⟩
    cases e : ysU S.ys s A s1 with
    | none => exact absurd e hs1
    | some A' =>
      rcases hyc s1 A' e with ⟨e1, -⟩ | h1
      · exact .inr (by omega)
      · exact i3.2.2.2.1 s1 (by rw [h1]; simp)
  have hfc : fcc w' = fcc S.w := by unfold fcc; rw [h2.1, h2.2]
  refine ⟨⟨hI, ⟨⟨i1.tr hFN, i2⟩, hS0, fun b hb => ⟨(i4 b hb).1.tr (hsm b (fun e => hy.1 (by rw [← e]; exact hb))), (i4 b hb).2⟩, i5, i6, i7, i8, i9⟩, j1, ⟨⟨k1, k2⟩, ⟨k3, k4⟩, k5, k6⟩, l1, ?_, l3⟩, ⟨hSW, fun b hb => ⟨hb, hsm b (fun e => hy.2 (by rw [← e]; exact hb))⟩, fun _ _ h => h⟩, hsm⟩
  show fcc w' = _
  rw [hfc]
  exact l2
/-- a symbol that is done becomes known in the twin -/
theorem HM.tk (h : HM D V nu tn rt p J cr S0 S T T') (hss : s < S.sn) (hs : S.ys s ≠ none) (hu : w_a S.t 12 0 51 s = i_ S.u) (hl : S.kt.length + 1 ≤ S.sn) : HM D V nu tn rt p J cr S0 (S.tk (tkn S.t S.kt.length (i_ s)) s) T T' ∧ NX nu S (S.tk (tkn S.t S.kt.length (i_ s)) s) ∧ ∀ b, SMN nu S (S.tk (tkn S.t S.kt.length (i_ s)) s) b := by
  obtain ⟨⟨⟨a1, a2⟩, a3, ⟨⟨b1, b2⟩, ⟨b3, b4⟩, b5, b6⟩, ⟨c1, c2, c3⟩, d1, ⟨e1, e3, e4, e5, e6⟩, ⟨f1, f2⟩, g1⟩, ⟨⟨i1, i2⟩, i3, i4, i5, i6, i7, i8, i9⟩, j1, k1, l1, l2, l3⟩ := h
  have ka : ∀ k j, k ≠ 57 → w_a (tkn S.t S.kt.length (i_ s)) 12 0 k j = w_a S.t 12 0 k j := fun k j hk => by
    unfold tkn
    rw [Rai, Raa, if_neg (fun z => hk z.1)]
  have kA : ∀ k, k ≠ 57 → w_a (tkn S.t S.kt.length (i_ s)) 12 0 k = w_a S.t 12 0 k := fun k hk => funext (fun j => ka k j hk)
  have ki : ∀ k, k ≠ 56 → w_i (tkn S.t S.kt.length (i_ s)) 12 0 k = w_i S.t 12 0 k := fun k hk => by
    unfold tkn
    rw [Rii, if_neg (fun z => hk z.1)]
    rfl
  have k56 : w_i (tkn S.t S.kt.length (i_ s)) 12 0 56 = i_ (S.kt.length + 1 : Nat) := by
    unfold tkn
    rw [Rii, if_pos ⟨rfl, rfl, rfl⟩]
  have k57 : w_a (tkn S.t S.kt.length (i_ s)) 12 0 57 S.kt.length = i_ s ∧ ∀ j, j ≠ S.kt.length → w_a (tkn S.t S.kt.length (i_ s)) 12 0 57 j = w_a S.t 12 0 57 j := by
    unfold tkn
    refine ⟨?_, fun j hj => ?_⟩
    · rw [Rai, Raa, if_pos ⟨rfl, rfl, rfl, rfl⟩]
    · rw [Rai, Raa, if_neg (fun z => hj z.2.2.2)]
  have kF : FTn S.t (tkn S.t S.kt.length (i_ s)) := (FTn_a rfl).tr (frm_i (by decide))
  have hly : ∀ s', lyk (tkn S.t S.kt.length (i_ s)) s' = lyk S.t s' := fun s' => by
    unfold lyk
    rw [ka 46 _ (by decide), ka 48 _ (by decide)]
  have hI : IVN D V nu tn rt (S.tk (tkn S.t S.kt.length (i_ s)) s) := by
    refine ⟨⟨a1, ⟨a2.1.fr kF, fun n hn k hk => ?_⟩⟩, a3, ⟨⟨(ki 44 (by decide)).trans b1, b2⟩, ⟨(ki 59 (by decide)).trans b3, b4⟩, (ki 62 (by decide)).trans b5, b6⟩, ⟨fun s' A hs' => ⟨(c1 s' A hs').1, (c1 s' A hs').2.cg (fun _ => rfl) (fun _ _ => rfl) (fun k hk => ka k s' (by omega)) (fun sp P _ => ka 46 sp (by decide)) (fun _ _ h => h) (c1 s' A hs').2.1.2⟩, c2, c3.cg (fun _ _ _ => rfl) rfl (fun s' _ _ => ka 46 s' (by decide))⟩, ?_, ⟨e1, k56, ⟨k57.1, e4.cg2 (fun j hj => k57.2 j (by omega))⟩, hl, fun s' hs' => ?_⟩, ⟨f1, ?_⟩, g1⟩
    · have h57 : k ≠ 57 := fun e => by rw [e] at hk; cases hk
      exact (ka k n h57).trans (a2.2 n hn k hk)
    · show UNI (tkn S.t S.kt.length (i_ s)) S.sn S.un
      unfold UNI at d1 ⊢
      simp only [hly, kA 60 (by decide), kA 61 (by decide), kA 51 (by decide), kA 52 (by decide)]
      exact d1
    · rcases List.mem_cons.mp hs' with e | e
      · subst e
        exact ⟨hss, hs, S.u, 0, (ka 51 _ (by decide)).trans hu, rfl⟩
      · obtain ⟨q1, q2, x, k', q3, q4⟩ := e6 s' e
        exact ⟨q1, q2, x, k', (ka 51 _ (by decide)).trans q3, q4.cg (kA 60 (by decide))⟩
    · show fkk (w_i (tkn S.t S.kt.length (i_ s)) 12 0 64)
      rw [ki 64 (by decide)]
      exact f2
  have hsm : ∀ b, SMN nu S (S.tk (tkn S.t S.kt.length (i_ s)) s) b := fun b => ⟨⟨rfl, rfl⟩, fun n' _ _ _ k hk => ka k n' (by omega)⟩
  have hSM : SMS S (S.tk (tkn S.t S.kt.length (i_ s)) s) := ⟨fun s' A hs' => ⟨hs', fun k => ⟨rfl, fun _ => rfl⟩⟩, fun s' _ k hk => ka k s' (by omega), Nat.le_refl _, fun _ h => .inl h, ⟨Nat.le_refl _, fun x _ => ⟨ka 60 x (by decide), fun _ => ka 61 x (by decide)⟩⟩, fun _ h => h⟩
  have hft : fct (tkn S.t S.kt.length (i_ s)) = fct S.t := by unfold fct; rw [ki 64 (by decide), ki 65 (by decide)]
  refine ⟨⟨hI, ⟨⟨i1, i2.tr kF⟩, i3.tr hSM i9, fun b hb => ⟨(i4 b hb).1.tr (hsm b), (i4 b hb).2⟩, i5, i6, i7, i8, i9⟩, j1, k1, l1, l2, ?_⟩, ⟨hSM, fun b hb => ⟨hb, hsm b⟩, fun _ _ h => h⟩, hsm⟩
  show fct (tkn S.t S.kt.length (i_ s)) = _
  rw [hft]
  exact l3
/-- a symbol that is done becomes known in MeetingHouse -/
def lkw (w : wS) (A : Nat) : wS := ws_p (ws_p w 15 A 4 (w_p w 5 0 3)) 5 0 3 (some A)
theorem HM.lk (h : HM D V nu tn rt p J cr S0 S T T') (hs : S.ys s = some A) (hn : s ∉ S.kc) : HM D V nu tn rt p J cr S0 (S.lk (lkw S.w A) s) T T' ∧ NX nu S (S.lk (lkw S.w A) s) ∧ ∀ b, SMN nu S (S.lk (lkw S.w A) s) b := by
  obtain ⟨⟨⟨a1, a2⟩, ⟨a3, a4⟩, b1, ⟨c1, c2, c3⟩, d1, ⟨⟨e1, e2⟩, e3⟩, ⟨f1, f2⟩, g1⟩, ⟨⟨i1, i2⟩, i3, i4, i5, i6, i7, i8, i9⟩, j1, k1, l1, l2, l3⟩ := h
  have hp14 : ∀ a k, w_p (lkw S.w A) 14 a k = w_p S.w 14 a k := fun a k => by
    unfold lkw
    rw [Rpp, if_neg (fun z => absurd z.2.1 (by decide)), Rpp, if_neg (fun z => absurd z.2.1 (by decide))]
  have hp15 : ∀ a k, (k = 4 ∧ a = A) ∨ w_p (lkw S.w A) 15 a k = w_p S.w 15 a k := fun a k => by
    by_cases e : k = 4 ∧ a = A
    · exact .inl e
    · unfold lkw
      rw [Rpp, if_neg (fun z => absurd z.2.1 (by decide)), Rpp, if_neg (fun z => e ⟨z.1, z.2.2⟩)]
      exact .inr rfl
  have hp4 : w_p (lkw S.w A) 15 A 4 = w_p S.w 5 0 3 := by
    unfold lkw
    rw [Rpp, if_neg (fun z => absurd z.2.1 (by decide)), Rpp, if_pos ⟨rfl, rfl, rfl⟩]
  have hp5 : w_p (lkw S.w A) 5 0 3 = some A := by
    unfold lkw
    rw [Rpp, if_pos ⟨rfl, rfl, rfl⟩]
  have hold : CHN (lkw S.w A) S.ys S.kc (w_p S.w 5 0 3) := by
    have aux : ∀ {l : List Nat} {x : Option Nat}, s ∉ l → CHN S.w S.ys l x → CHN (lkw S.w A) S.ys l x := by
      intro l
      induction l with
      | nil => exact fun _ h => h
      | cons s' l ih =>
        intro x hx h
        obtain ⟨h1, A', h2, h3⟩ := h
        refine ⟨h1, A', h2, ?_⟩
        have hne : A' ≠ A := fun e => hx (by rw [c2 s s' A' (by rw [e]; exact hs) h2]; exact List.mem_cons_self)
        rw [(hp15 A' 4).resolve_left (fun z => hne z.2)]
        exact ih (fun z => hx (List.mem_cons_of_mem _ z)) h3
    exact aux hn e1
  have hI : IVN D V nu tn rt (S.lk (lkw S.w A) s) := by
    refine ⟨⟨a1.o rfl (fun _ _ => rfl) (fun a k _ => hp14 a k), a2⟩, ⟨a3.p.p, a4⟩, b1, ⟨fun s' A' hs' => ⟨(c1 s' A' hs').1, (c1 s' A' hs').2.cg (fun _ => rfl) (fun k hk => (hp15 A' k).resolve_left (fun z => hk z.1)) (fun _ _ => rfl) (fun _ _ _ => rfl) (fun _ _ h => h) (c1 s' A' hs').2.1.2⟩, c2, c3.cg (fun _ _ _ => rfl) rfl (fun _ _ _ => rfl)⟩, d1, ⟨⟨?_, fun s' hs' => ?_⟩, e3⟩, ⟨f1, f2⟩, g1⟩
    · show CHN (lkw S.w A) S.ys (s :: S.kc) (w_p (lkw S.w A) 5 0 3)
      rw [hp5]
      exact ⟨hs.symm, A, hs, by rw [hp4]; exact hold⟩
    · rcases List.mem_cons.mp hs' with e | e
      · rw [e]
        show S.ys s ≠ none
        rw [hs]
        simp
      · exact e2 s' e
  have hsm : ∀ b, SMN nu S (S.lk (lkw S.w A) s) b := fun b => ⟨⟨hp14 b 16, rfl⟩, fun _ _ _ _ _ _ => rfl⟩
  have hSM : SMS S (S.lk (lkw S.w A) s) := ⟨fun s' A' hs' => ⟨hs', fun k => ⟨rfl, fun hk => (hp15 A' k).resolve_left (fun z => hk z.1)⟩⟩, fun _ _ _ _ => rfl, Nat.le_refl _, fun _ h => .inl h, ⟨Nat.le_refl _, fun _ _ => ⟨rfl, fun _ => rfl⟩⟩, fun _ h => h⟩
  exact ⟨⟨hI, ⟨⟨i1.tr ((FN_p rfl).tr (FN_p rfl)), i2⟩, i3.tr hSM i9, fun b hb => ⟨(i4 b hb).1.tr (hsm b), (i4 b hb).2⟩, i5, i6, i7, i8, i9⟩, j1, k1, l1, l2, l3⟩, ⟨hSM, fun b hb => ⟨hb, hsm b⟩, fun _ _ h => h⟩, hsm⟩
end ITM
