/-! ===== ROUNDS, part 16: a name becomes known in both ===== -/
def ysU (ys : Nat → Option Nat) (s A : Nat) : Nat → Option Nat := fun x => if x = s then some A else ys x
def nS.deg (S : nS) (w' t' : wS) (A : Nat) (kc' kt' : List Nat) : nS := (w', t', S.2.2.1, (ysU S.ys S.sn A, S.sn + 1), (kc', kt'), S.2.2.2.2.2)
def nS.de (S : nS) (w' t' : wS) (A : Nat) : nS := (w', t', S.2.2.1, (ysU S.ys S.sn A, S.sn + 1), (S.sn :: S.kc, S.sn :: S.kt), S.2.2.2.2.2)
section DEC
variable {D : pD} {V : pV} {nu : pN} {tn : Nat → Prop} {rt p q n r d j k s u A cr : Nat} {J : List Nat} {S S0 : nS} {w w2 w' t t' : wS} {x1 v : Option Nat} {x2 x3 x : Int32} {T T' : Int} {rs : kx_Rs} {al' : List Nat} {kr : List Nat} {ys ys' : Nat → Option Nat}
theorem CHN.yz : ∀ {l : List Nat} {x : Option Nat}, (∀ s ∈ l, ys' s = ys s) → CHN w ys l x → CHN w ys' l x
  | [], _, _, h => h
  | s :: l, x, hy, h => by
    obtain ⟨h1, A, h2, h3⟩ := h
    exact ⟨h1.trans (hy s List.mem_cons_self).symm, A, (hy s List.mem_cons_self).trans h2, CHN.yz (fun s' hs' => hy s' (List.mem_cons_of_mem _ hs')) h3⟩
theorem KNr.cg2 : ∀ {l : List Nat}, (∀ j, j < l.length → w_a t' 12 0 57 j = w_a t 12 0 57 j) → KNr t l → KNr t' l
  | [], _, h => h
  | s :: l, hj, h => ⟨(hj l.length (by simp)).trans h.1, KNr.cg2 (fun j h1 => hj j (by rw [List.length_cons]; omega)) h.2⟩
theorem lyk_le : lyk t s ≤ 2 := by
  unfold lyk
  split
  · split <;> omega
  · omega
theorem HM.decg {kc' kt' : List Nat} (h : HM D V nu tn rt p J cr S0 S T T') (hA : FRA D S A) (hcr : S.sn + S0.vs.length + 1 ≤ S0.sn + S.vs.length) (hnu : nu p = some (n, r, d)) (hn : n < 14000) (hst : STR D V nu tn rt)
    (hS : SSO D.1 w' S.al S.am) (ho : w_o w' = w_o S.w) (h14i : ∀ a k, w_i w' 14 a k = w_i S.w 14 a k) (h14p : ∀ a k, (k = 16 ∧ a = p) ∨ w_p w' 14 a k = w_p S.w 14 a k) (h15 : ∀ A', A' ≠ A → ∀ k, w_i w' 15 A' k = w_i S.w 15 A' k ∧ w_p w' 15 A' k = w_p S.w 15 A' k) (h5 : w_i w' 5 0 4 = w_i S.w 5 0 4 + 1) (hb : w_i w' 15 A 3 = w_i S.w 5 0 4) (hkc : (kc' = S.kc ∧ w_p w' 5 0 3 = w_p S.w 5 0 3) ∨ (kc' = S.sn :: S.kc ∧ w_p w' 5 0 3 = some A ∧ w_p w' 15 A 4 = w_p S.w 5 0 3)) (hkt : (kt' = S.kt ∧ w_i t' 12 0 56 = w_i S.t 12 0 56 ∧ ∀ j, w_a t' 12 0 57 j = w_a S.t 12 0 57 j) ∨ (kt' = S.sn :: S.kt ∧ w_i t' 12 0 56 = i_ (S.kt.length + 1 : Nat) ∧ w_a t' 12 0 57 S.kt.length = i_ S.sn ∧ ∀ j, j ≠ S.kt.length → w_a t' 12 0 57 j = w_a S.t 12 0 57 j)) (h2 : w_i w' 2 0 1 = w_i S.w 2 0 1 ∧ w_i w' 2 0 2 = w_i S.w 2 0 2) (hFN : FN S.w w')
    (ta : ∀ k, 45 ≤ k → k ≤ 55 → ∀ j, j ≠ S.sn → w_a t' 12 0 k j = w_a S.t 12 0 k j) (t60 : w_a t' 12 0 60 = w_a S.t 12 0 60) (t61 : w_a t' 12 0 61 S.u = w_a S.t 12 0 61 S.u + i_ (lyk t' S.sn) ∧ ∀ j, j ≠ S.u → w_a t' 12 0 61 j = w_a S.t 12 0 61 j) (t51 : w_a t' 12 0 51 S.sn = i_ S.u ∧ w_a t' 12 0 52 S.sn = w_a S.t 12 0 61 S.u)
    (ti : w_i t' 12 0 44 = i_ (S.sn + 1 : Nat) ∧ w_i t' 12 0 59 = w_i S.t 12 0 59 ∧ w_i t' 12 0 62 = w_i S.t 12 0 62 ∧ w_i t' 12 0 64 = w_i S.t 12 0 64 ∧ w_i t' 12 0 65 = w_i S.t 12 0 65) (tT : TRTn V tn t') (tF : FTn S.t t') (t31 : ∀ k j, (k = 31 ∨ k = 63 ∨ k = 66 ∨ k = 67) → j ≠ n → w_a t' 12 0 k j = w_a S.t 12 0 k j)
    (hR : RS1 D V nu w' t' (ysU S.ys S.sn A) S.sn A) : HM D V nu tn rt p J (cr - cr % 2) S0 (S.deg w' t' A kc' kt') T T' ∧ NX nu S (S.deg w' t' A kc' kt') := by
  obtain ⟨⟨⟨a1, a2⟩, ⟨a3, a4⟩, ⟨⟨b1, b2⟩, ⟨b3, b4⟩, b5, b6⟩, ⟨c1, c2, ⟨z, c3, c4, c5, c6⟩, c7, c8⟩, ⟨d1, d2, d3, d4⟩, ⟨⟨e1, e2⟩, e3, e4, e5, e6⟩, ⟨f1, f2⟩, g1⟩, ⟨⟨i1, i2⟩, i3, i4, i5, i6, i7, i8, i9⟩, j1, ⟨⟨k1, k2⟩, ⟨k3, k4⟩, k5, k6⟩, l1, l2, l3⟩ := h
  have hvl := hst.2.2.2.2.2.2 S.vs g1.1.1 (fun a ha => (g1.1.2 a ha).1)
  have hsn : S.sn ≤ 5502 := by omega
  have ham : S.am ≤ 11002 := by omega
  have hz1 : z + 1 ≤ S.am := by
    obtain ⟨z', e1, e2⟩ := hA.1.2
    have := (i_eq (by omega) (by omega)).mp (c3.symm.trans e1)
    omega
  have hlt : ∀ s A', S.ys s = some A' → s < S.sn := fun s A' hs => (c1 s A' hs).1.1
  have hne : ∀ s A', S.ys s = some A' → A' ≠ A := fun s A' hs e => hA.2.1 s (by rw [← e]; exact hs)
  have hyo : ∀ s A', S.ys s = some A' → ysU S.ys S.sn A s = some A' := fun s A' hs => by
    unfold ysU
    rw [if_neg (by have := hlt s A' hs; omega)]
    exact hs
  have hys : ysU S.ys S.sn A S.sn = some A := by unfold ysU; rw [if_pos rfl]
  have hyc : ∀ s A', ysU S.ys S.sn A s = some A' → (s = S.sn ∧ A' = A) ∨ S.ys s = some A' := fun s A' hs => by
    unfold ysU at hs
    by_cases e : s = S.sn
    · rw [if_pos e] at hs
      cases hs
      exact .inl ⟨e, rfl⟩
    · rw [if_neg e] at hs
      exact .inr hs
  have h46 : ∀ s A', S.ys s = some A' → w_a t' 12 0 46 s = w_a S.t 12 0 46 s := fun s A' hs => ta 46 (by decide) (by decide) s (by have := hlt s A' hs; omega)
  have hwl : ∀ a, w_l S.w D.1.2.1 15 a → w_l w' D.1.2.1 15 a := fun a ha => by
    unfold w_l at ha ⊢
    rw [ho]
    exact ha
  have hnr : ∀ s A', S.ys s = some A' → (nrt t' s ↔ nrt S.t s) := fun s A' hs => by
    unfold nrt
    rw [h46 s A' hs]
  have hse : ∀ s A', S.ys s = some A' → ser w' A' = ser S.w A' := fun s A' hs => by
    unfold ser
    rw [(h15 A' (hne s A' hs) 3).1]
  have hsA : ser w' A = z := by
    unfold ser
    rw [hb, c3, i_toInt (by omega)]
  have hly : ∀ s, s < S.sn → lyk t' s = lyk S.t s := fun s hs => by
    unfold lyk
    rw [ta 46 (by decide) (by decide) s (by omega), ta 48 (by decide) (by decide) s (by omega)]
  have h51 : ∀ s, s < S.sn → w_a t' 12 0 51 s = w_a S.t 12 0 51 s := fun s hs => ta 51 (by decide) (by decide) s (by omega)
  have h52 : ∀ s, s < S.sn → w_a t' 12 0 52 s = w_a S.t 12 0 52 s := fun s hs => ta 52 (by decide) (by decide) s (by omega)
  have hl2 : lyk t' S.sn ≤ 2 := lyk_le
  obtain ⟨zu, u1, u2, u3⟩ := d2 S.u b6
  have hun : S.un ≤ 5501 := by omega
  have hysn : ∀ s, S.ys s ≠ none → ysU S.ys S.sn A s ≠ none := fun s hs => by
    cases e : S.ys s with
    | none => exact absurd e hs
    | some A' =>
      rw [hyo s A' e]
      simp
  have hKC : CHN w' (ysU S.ys S.sn A) kc' (w_p w' 5 0 3) ∧ ∀ s ∈ kc', ysU S.ys S.sn A s ≠ none := by
    have hold : CHN w' (ysU S.ys S.sn A) S.kc (w_p S.w 5 0 3) := by
      refine CHN.yz (fun s hs => ?_) (e1.cg (fun s A' hs => (h15 A' (hne s A' hs) 4).2))
      cases e : S.ys s with
      | none => exact absurd e (e2 s hs)
      | some A' => exact hyo s A' e
    rcases hkc with ⟨k1, k2⟩ | ⟨k1, k2, k3⟩
    · rw [k1, k2]
      exact ⟨hold, fun s hs => hysn s (e2 s hs)⟩
    · rw [k1, k2]
      refine ⟨⟨hys.symm, A, hys, by rw [k3]; exact hold⟩, fun s hs => ?_⟩
      rcases List.mem_cons.mp hs with e | e
      · rw [e, hys]
        simp
      · exact hysn s (e2 s e)
  have hKT : w_i t' 12 0 56 = i_ kt'.length ∧ KNr t' kt' ∧ kt'.length ≤ S.sn + 1 ∧ ∀ s ∈ kt', s < S.sn + 1 ∧ ysU S.ys S.sn A s ≠ none ∧ ∃ x k : Nat, w_a t' 12 0 51 s = i_ x ∧ uch t' k S.u x := by
    have hold : ∀ s ∈ S.kt, s < S.sn + 1 ∧ ysU S.ys S.sn A s ≠ none ∧ ∃ x k : Nat, w_a t' 12 0 51 s = i_ x ∧ uch t' k S.u x := fun s hs => by
      obtain ⟨q1, q2, x, k', q3, q4⟩ := e6 s hs
      exact ⟨Nat.lt_succ_of_lt q1, hysn s q2, x, k', (h51 s q1).trans q3, q4.cg t60⟩
    rcases hkt with ⟨k1, k2, k3⟩ | ⟨k1, k2, k3, k4⟩
    · rw [k1, k2]
      exact ⟨e3, e4.cg2 (fun j _ => k3 j), by omega, hold⟩
    · rw [k1]
      refine ⟨k2, ⟨k3, e4.cg2 (fun j hj => k4 j (by omega))⟩, by show S.kt.length + 1 ≤ S.sn + 1; omega, fun s hs => ?_⟩
      rcases List.mem_cons.mp hs with e | e
      · subst e
        exact ⟨Nat.lt_succ_self _, by rw [hys]; simp, S.u, 0, t51.1, rfl⟩
      · exact hold s e
  have hKN : KNO (S.deg w' t' A kc' kt') := ⟨hKC, hKT⟩
  have hI : IVN D V nu tn rt (S.deg w' t' A kc' kt') := by
    refine ⟨⟨a1.o ho h14i (fun a k hk => (h14p a k).resolve_left (fun z => hk z.1)), tT⟩, ⟨hS, a4⟩, ⟨⟨ti.1, ?_⟩, ⟨ti.2.1.trans b3, b4⟩, ti.2.2.1.trans b5, b6⟩, ⟨fun s A' hs => ?_, fun s s' A' hs hs' => ?_, ⟨z + 1, ?_, ?_, fun s A' hs hr => ?_, fun q hq => ?_⟩, fun s A1 s' A2 hs hs' hr hr' hss => ?_, fun q hq s A' hs hr => ?_⟩, ⟨⟨?_, fun x hx hx2 => ?_⟩, fun x hx => ?_, fun s hs => ?_, fun s s' hss hs' he l l' hl hl' g4 g5 => ?_⟩, hKN, ⟨?_, ?_⟩, g1⟩
    · show S.sn + 1 ≤ 2 + S.vs.length
      omega
    · rcases hyc s A' hs with ⟨e, e'⟩ | h1
      · subst e e'
        exact ⟨⟨Nat.lt_succ_self _, hA.1.1⟩, hR⟩
      · refine ⟨⟨Nat.lt_succ_of_lt (hlt s A' h1), (c1 s A' h1).1.2⟩, (c1 s A' h1).2.cg (fun k => (h15 A' (hne s A' h1) k).1) (fun k _ => (h15 A' (hne s A' h1) k).2) (fun k hk => ta k hk.1 hk.2 s (by have := hlt s A' h1; omega)) (fun sp P hP => h46 sp P hP) hyo (hwl A' (c1 s A' h1).2.1.2)⟩
    · rcases hyc s A' hs with ⟨e, e'⟩ | h1
      · rcases hyc s' A' hs' with ⟨e2, -⟩ | h2'
        · omega
        · exact absurd e' (hne s' A' h2')
      · rcases hyc s' A' hs' with ⟨e2, e'⟩ | h2'
        · exact absurd e' (hne s A' h1)
        · exact c2 s s' A' h1 h2'
    · show w_i w' 5 0 4 = i_ (z + 1 : Nat)
      rw [h5, c3, i_1, i_add]
      congr 1
    · show z + 1 ≤ S.am
      exact hz1
    · rcases hyc s A' hs with ⟨e, e'⟩ | h1
      · show 0 ≤ ser w' A' ∧ ser w' A' < ((z + 1 : Nat) : Int)
        rw [e', hsA]
        omega
      · have := c5 s A' h1 ((hnr s A' h1).mp hr)
        have e2 : ser w' A' = ser S.w A' := hse s A' h1
        show 0 ≤ ser w' A' ∧ ser w' A' < ((z + 1 : Nat) : Int)
        omega
    · have := c6 q hq
      show q.1 ≤ S.sn + 1 ∧ q.2 ≤ ((z + 1 : Nat) : Int)
      omega
    · show ser w' A1 < ser w' A2
      rcases hyc s A1 hs with ⟨e, e'⟩ | h1
      · rcases hyc s' A2 hs' with ⟨e2, -⟩ | h2'
        · omega
        · have := hlt s' A2 h2'
          omega
      · rcases hyc s' A2 hs' with ⟨e2, e'⟩ | h2'
        · rw [e', hsA, hse s A1 h1]
          exact (c5 s A1 h1 ((hnr s A1 h1).mp hr)).2
        · rw [hse s A1 h1, hse s' A2 h2']
          exact c7 s A1 s' A2 h1 h2' ((hnr s A1 h1).mp hr) ((hnr s' A2 h2').mp hr') hss
    · have hq6 := c6 q hq
      rcases hyc s A' hs with ⟨e, e'⟩ | h1
      · show s < q.1 ↔ ser w' A' < q.2
        rw [e, e', hsA]
        omega
      · show s < q.1 ↔ ser w' A' < q.2
        rw [hse s A' h1]
        exact c8 q hq s A' h1 ((hnr s A' h1).mp hr)
    · show w_a t' 12 0 60 0 = -1
      rw [t60]
      exact d1.1
    · obtain ⟨y, q1, q2⟩ := d1.2 x hx hx2
      exact ⟨y, q1, (congrFun t60 x).trans q2⟩
    · have hx : x < S.un := hx
      by_cases ex : x = S.u
      · subst ex
        refine ⟨zu + lyk t' S.sn, ?_, ?_, fun s hs hu => ?_⟩
        · show zu + lyk t' S.sn ≤ 2 * (S.sn + 1)
          omega
        · show w_a t' 12 0 61 S.u = i_ (zu + lyk t' S.sn : Nat)
          rw [t61.1, u2, i_add]
          congr 1
        · by_cases es : s = S.sn
          · subst es
            exact ⟨zu, t51.2.trans u2, Nat.le_refl _⟩
          · have hs' : s < S.sn := by have : s < S.sn + 1 := hs; omega
            obtain ⟨l, q1, q2⟩ := u3 s hs' ((h51 s hs').symm.trans hu)
            exact ⟨l, (h52 s hs').trans q1, by show l + lyk t' s ≤ _; rw [hly s hs']; omega⟩
      · obtain ⟨zx, q0, q1, q2⟩ := d2 x hx
        refine ⟨zx, by show zx ≤ 2 * (S.sn + 1); omega, (t61.2 x ex).trans q1, fun s hs hu => ?_⟩
        by_cases es : s = S.sn
        · subst es
          have hu : w_a t' 12 0 51 S.sn = i_ x := hu
          rw [t51.1] at hu
          have := (i_eq (by omega) (by omega)).mp hu
          omega
        · have hs' : s < S.sn := by have : s < S.sn + 1 := hs; omega
          obtain ⟨l, q3, q4⟩ := q2 s hs' ((h51 s hs').symm.trans hu)
          exact ⟨l, (h52 s hs').trans q3, by show l + lyk t' s ≤ _; rw [hly s hs']; exact q4⟩
    · by_cases es : s = S.sn
      · subst es
        exact ⟨S.u, b6, t51.1⟩
      · have hs' : s < S.sn := by have : s < S.sn + 1 := hs; omega
        obtain ⟨x, q1, q2⟩ := d3 s hs'
        exact ⟨x, q1, (h51 s hs').trans q2⟩
    · have hs1 : s < S.sn := by have : s' < S.sn + 1 := hs'; omega
      show l + lyk t' s ≤ l'
      rw [hly s hs1]
      have g4' := (h52 s hs1).symm.trans g4
      by_cases es : s' = S.sn
      · subst es
        have hu : w_a S.t 12 0 51 s = i_ S.u := (h51 s hs1).symm.trans (he.trans t51.1)
        obtain ⟨l0, q1, q2⟩ := u3 s hs1 hu
        have g5' : i_ zu = (i_ l' : Int32) := (t51.2.trans u2).symm.trans g5
        have e1 : i_ l0 = (i_ l : Int32) := q1.symm.trans g4'
        have e2 := (i_eq (by omega) (by omega)).mp g5'
        have e3 := (i_eq (by omega) (by omega)).mp e1
        omega
      · have hs2 : s' < S.sn := by have : s' < S.sn + 1 := hs'; omega
        exact d4 s s' hss hs2 ((h51 s hs1).symm.trans (he.trans (h51 s' hs2))) l l' hl hl' g4' ((h52 s' hs2).symm.trans g5)
    · show fkk (w_i w' 2 0 1)
      rw [h2.1]
      exact f1
    · show fkk (w_i t' 12 0 64)
      rw [ti.2.2.2.1]
      exact f2
  have hsm : ∀ b, b ≠ p → SMN nu S (S.deg w' t' A kc' kt') b := fun b hbp => ⟨⟨(h14p b 16).resolve_left (fun z => hbp z.2), h14i b 10⟩, fun n' r' d' e k hk => t31 k n' hk (fun en => by
    subst en
    exact hbp (hst.2.2.2.1 _ _ _ _ _ _ _ e hnu (by omega)))⟩
  have hSM : SMS S (S.deg w' t' A kc' kt') := ⟨fun s A' hs => ⟨hyo s A' hs, fun k => ⟨(h15 A' (hne s A' hs) k).1, fun _ => (h15 A' (hne s A' hs) k).2⟩⟩, fun s hs k hk => ta k hk.1 hk.2 s (by omega), Nat.le_succ _, fun s hs => by
    cases e : ysU S.ys S.sn A s with
    | none => exact absurd e hs
    | some A' =>
      rcases hyc s A' e with ⟨e1, -⟩ | h1
      · exact .inr (by omega)
      · exact .inl (by rw [h1]; simp), ⟨Nat.le_refl _, fun x hx => ⟨congrFun t60 x, fun hne => t61.2 x hne⟩⟩, fun _ h => h⟩
  have hfc : fcc w' = fcc S.w := by unfold fcc; rw [h2.1, h2.2]
  have hft : fct t' = fct S.t := by unfold fct; rw [ti.2.2.2.1, ti.2.2.2.2]
  refine ⟨⟨hI, ⟨⟨i1.tr hFN, i2.tr tF⟩, i3.tr hSM i9, fun b hb => ⟨(i4 b hb).1.tr (hsm b (fun e => j1.2.1 (by rw [← e]; exact hb))), (i4 b hb).2⟩, i5, i6, i7, i8, i9⟩, j1, ⟨⟨?_, k2⟩, ⟨?_, k4⟩, ?_, k6⟩, l1, ?_, ?_⟩, ⟨hSM, fun b hb => ⟨hb, hsm b (fun e => j1.2.2.1 (by rw [← e]; exact hb))⟩, fun _ _ h => h⟩⟩
  · show S.sn + 1 + S0.vs.length + (cr - cr % 2) % 2 ≤ S0.sn + S.vs.length
    omega
  · show S.am + 2 * S0.vs.length + (cr - cr % 2) / 2 ≤ S0.am + 2 * S.vs.length
    omega
  · show S.un + S0.vs.length + (cr - cr % 2) % 2 ≤ S0.un + S.vs.length
    omega
  · show fcc w' = _
    rw [hfc]
    exact l2
  · show fct t' = _
    rw [hft]
    exact l3
theorem HM.dec (h : HM D V nu tn rt p J cr S0 S T T') (hA : FRA D S A) (hcr : S.sn + S0.vs.length + 1 ≤ S0.sn + S.vs.length) (hnu : nu p = some (n, r, d)) (hn : n < 14000) (hst : STR D V nu tn rt)
    (hS : SSO D.1 w' S.al S.am) (ho : w_o w' = w_o S.w) (h14i : ∀ a k, w_i w' 14 a k = w_i S.w 14 a k) (h14p : ∀ a k, (k = 16 ∧ a = p) ∨ w_p w' 14 a k = w_p S.w 14 a k) (h15 : ∀ A', A' ≠ A → ∀ k, w_i w' 15 A' k = w_i S.w 15 A' k ∧ w_p w' 15 A' k = w_p S.w 15 A' k) (h5 : w_p w' 5 0 3 = some A ∧ w_i w' 5 0 4 = w_i S.w 5 0 4 + 1) (hb : w_p w' 15 A 4 = w_p S.w 5 0 3 ∧ w_i w' 15 A 3 = w_i S.w 5 0 4) (h2 : w_i w' 2 0 1 = w_i S.w 2 0 1 ∧ w_i w' 2 0 2 = w_i S.w 2 0 2) (hFN : FN S.w w')
    (ta : ∀ k, 45 ≤ k → k ≤ 55 → ∀ j, j ≠ S.sn → w_a t' 12 0 k j = w_a S.t 12 0 k j) (t60 : w_a t' 12 0 60 = w_a S.t 12 0 60) (t57 : w_a t' 12 0 57 S.kt.length = i_ S.sn ∧ ∀ j, j ≠ S.kt.length → w_a t' 12 0 57 j = w_a S.t 12 0 57 j) (t61 : w_a t' 12 0 61 S.u = w_a S.t 12 0 61 S.u + i_ (lyk t' S.sn) ∧ ∀ j, j ≠ S.u → w_a t' 12 0 61 j = w_a S.t 12 0 61 j) (t51 : w_a t' 12 0 51 S.sn = i_ S.u ∧ w_a t' 12 0 52 S.sn = w_a S.t 12 0 61 S.u)
    (ti : (w_i t' 12 0 44 = i_ (S.sn + 1 : Nat) ∧ w_i t' 12 0 56 = i_ (S.kt.length + 1 : Nat)) ∧ w_i t' 12 0 59 = w_i S.t 12 0 59 ∧ w_i t' 12 0 62 = w_i S.t 12 0 62 ∧ w_i t' 12 0 64 = w_i S.t 12 0 64 ∧ w_i t' 12 0 65 = w_i S.t 12 0 65) (tT : TRTn V tn t') (tF : FTn S.t t') (t31 : ∀ k j, (k = 31 ∨ k = 63 ∨ k = 66 ∨ k = 67) → j ≠ n → w_a t' 12 0 k j = w_a S.t 12 0 k j)
    (hR : RS1 D V nu w' t' (ysU S.ys S.sn A) S.sn A) : HM D V nu tn rt p J (cr - cr % 2) S0 (S.de w' t' A) T T' ∧ NX nu S (S.de w' t' A) :=
  h.decg (kc' := S.sn :: S.kc) (kt' := S.sn :: S.kt) hA hcr hnu hn hst hS ho h14i h14p h15 h5.2 hb.2 (.inr ⟨rfl, h5.1, hb.1⟩) (.inr ⟨rfl, ti.1.2, t57.1, t57.2⟩) h2 hFN ta t60 t61 t51 ⟨ti.1.1, ti.2⟩ tT tF t31 hR
end DEC
