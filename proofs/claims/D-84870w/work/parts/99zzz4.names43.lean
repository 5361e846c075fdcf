/-! ===== ROUNDS, part 45: items in a row ===== -/
/-- the latest first -/
def rsq (s : Nat) : Nat → List Nat
  | 0 => []
  | m + 1 => (s + m) :: rsq s m
/-- an item that is declared: its symbol is of a kind -/
def ITF (V : pV) (nu : pN) (S : nS) (C : Nat → Prop) (u : Nat) (z : Nat × Nat × Nat) (s : Nat) : Prop := (∃ r, nu z.2.1 = some (z.1, r, z.2.2)) ∧ SYM S z.2.1 z.1 s ∧ w_a S.t 12 0 45 s = V.2.2.1 30 z.1 ∧ (∃ c, C c ∧ w_a S.t 12 0 46 s = i_ c) ∧ w_a S.t 12 0 51 s = i_ u ∧ s < S.sn
def ITL (V : pV) (nu : pN) (S : nS) (C : Nat → Prop) (u : Nat) : Nat → List (Nat × Nat × Nat) → Prop
  | _, [] => True
  | s, z :: l => ITF V nu S C u z s ∧ ITL V nu S C u (s + 1) l
section ITR
variable {D : pD} {V : pV} {nu : pN} {tn : Nat → Prop} {rt p q n nq m r d dq j k k' k0 f s s0 u un y A c cr crq kd W i : Nat} {J J' Jq : List Nat} {S S' S0 S1 : nS} {w w2 w' t t' : wS} {v v2 : Option Nat} {x x1 x2 x3 z y9 l' : Int32} {T T' T1 T2 : Int} {kr ks : List Nat} {L L' Lc Ls Lk Lx Lt : Nat} {E E' : zE} {ol : Option Int32} {Q : kx_Rs → wS → Prop} {gc gt : pQ} {Φ : kx_Rs → wS → kx_Rs → wS → Prop} {C : Nat → Prop}
theorem rsq_len : ∀ {m : Nat}, (rsq s m).length = m
  | 0 => rfl
  | m + 1 => by rw [rsq, List.length_cons, rsq_len]
theorem ITF.st {z : Nat × Nat × Nat} (h : ITF V nu S C u z s) (hx : SMW S S') (hs : SMN nu S S' z.2.1) : ITF V nu S' C u z s := by
  obtain ⟨⟨r, h1⟩, ⟨A, a1, a2, a3⟩, h3, ⟨c, h4, h4b⟩, h5, h6⟩ := h
  exact ⟨⟨r, h1⟩, ⟨A, (hx.1 s A a1).1, hs.1.1.trans a2, (hs.2 _ _ _ h1 31 (.inl rfl)).trans a3⟩, (hx.2.1 s h6 45 (by decide)).trans h3, ⟨c, h4, (hx.2.1 s h6 46 (by decide)).trans h4b⟩, (hx.2.1 s h6 51 (by decide)).trans h5, Nat.lt_of_lt_of_le h6 hx.2.2.1⟩
theorem ITL.st : ∀ {l : List (Nat × Nat × Nat)} {s : Nat}, ITL V nu S C u s l → SMW S S' → (∀ z ∈ l, SMN nu S S' z.2.1) → ITL V nu S' C u s l
  | [], _, _, _, _ => trivial
  | z :: l, s, h, hx, hs => ⟨h.1.st hx (hs z List.mem_cons_self), ITL.st h.2 hx (fun z' hz => hs z' (List.mem_cons_of_mem _ hz))⟩
theorem ITL.snoc {z : Nat × Nat × Nat} : ∀ {l : List (Nat × Nat × Nat)} {s : Nat}, ITL V nu S C u s l → ITF V nu S C u z (s + l.length) → ITL V nu S C u s (l ++ [z])
  | [], _, _, h => ⟨h, trivial⟩
  | z0 :: l, s, h, h2 => ⟨h.1, ITL.snoc h.2 (by rw [show s + 1 + l.length = s + (z0 :: l).length by rw [List.length_cons]; omega]; exact h2)⟩
theorem ITL.nm : ∀ {l : List (Nat × Nat × Nat)} {s : Nat}, ITL V nu S C u s l → ∀ i, i < (l.map (fun z => z.1)).length → w_a S.t 12 0 45 (s + i) = V.2.2.1 30 ((l.map (fun z => z.1)).getD i 0)
  | [], _, _, i, hi => absurd hi (Nat.not_lt_zero i)
  | z :: l, s, h, i, hi => by
    cases i with
    | zero => exact h.1.2.2.1
    | succ i =>
      have := ITL.nm h.2 i (by simpa using hi)
      rw [show s + (i + 1) = s + 1 + i by omega, this]
      rfl
/-- as a row of declared names -/
theorem ITL.lch {ol : Option Int32} : ∀ {l : List (Nat × Nat × Nat)} {a : Option Nat} {x : Int32} {i : Nat}, LPx V tn nu k0 ol l a x none (-1) → ITL V nu S C u (s0 + i) l → (∀ z ∈ l, S.dn z.2.1) → ∃ L, LCH V (fun kr q kr' => ∃ c, C c ∧ DNM nu S u c kr q kr') L a (rsq s0 i ++ kr) (rsq s0 (i + l.length) ++ kr)
  | [], a, x, i, h, _, _ => ⟨[], h.1, rfl⟩
  | z :: l, a, x, i, h, hI, hd => by
    obtain ⟨⟨r, h1⟩, h2, h3, ⟨c, h4, h4b⟩, h5, h6⟩ := hI.1
    obtain ⟨L, hL⟩ := ITL.lch (i := i + 1) h.2.2.2 hI.2 (fun z' hz => hd z' (List.mem_cons_of_mem _ hz))
    refine ⟨(z.2.1, rsq s0 (i + 1) ++ kr) :: L, h.1, ⟨c, h4, hd z List.mem_cons_self, z.1, r, z.2.2, s0 + i, h1, rfl, h2, h4b, h5⟩, ?_⟩
    rw [show i + (z :: l).length = i + 1 + l.length by rw [List.length_cons]; omega]
    exact hL
/-- the twin makes the names known that were declared in a row -/
theorem n_kn {gtl : Int32 → wS → pQ} {Y : (kx_Rs → wS → Prop) → String → wS → Prop} (hs : STR D V nu tn rt) (hL : 40 ≤ Lt) (hst : ∀ (S : nS) (n : Nat), n < 14000 → TLN S.t → PS gc (fun Q => zw E' Lt kt_M455 [.ref (w_adr E'.2.1 12 0), .int (w_a S.t 12 0 31 n)] S.t (wk0 (fun t1 => wle S.t t1 → (kx_inb (i_ n) (w_n t1 12 0 32) = true ∧ gtl (w_a t1 12 0 32 n) t1 Q)) (Y Q))) Φ → PS gc (gtl (i_ n) S.t) Φ) :
    ∀ {l : List (Nat × Nat × Nat)} {S : nS} {a : Option Nat} {x : Int32} {i : Nat}, HM D V nu tn rt p J cr S0 S T T' → S.kt = rsq s0 i ++ kr → kr.length ≤ s0 → LPx V tn nu k0 ol l a x none (-1) → ITL V nu S C S.u (s0 + i) l → (∀ S' : nS, HM D V nu tn rt p J cr S0 S' T T' → S'.kt = rsq s0 (i + l.length) ++ kr → S'.2.2.1 = S.2.2.1 → S'.2.2.2.1 = S.2.2.2.1 → S'.kc = S.kc → S'.2.2.2.2.2 = S.2.2.2.2.2 → S'.w = S.w → NX nu S S' → (∀ b, SMN nu S S' b) → PS gc (gtl (-1) S'.t) Φ) → PS gc (gtl x S.t) Φ
  | [], S, a, x, i, H, hk, hlen, hl, hI, kk => by
    rw [show x = -1 from hl.2]
    exact kk S H hk rfl rfl rfl rfl rfl NX.rf (fun _ => SMN.rf)
  | z :: l, S, a, x, i, H, hk, hlen, hl, hI, kk => by
    obtain ⟨h1, h2, h3, h4⟩ := hl
    obtain ⟨⟨r, b1⟩, ⟨A, a1, a2, a3⟩, b3, b4, b5, b6⟩ := hI.1
    have hn := h3.n14 hs
    have htn : tn z.1 := by
      obtain ⟨m, c, r', hP, htn, -⟩ := h3
      exact htn z.1 hP.mem
    have hlk : S.kt.length = i + kr.length := by rw [hk, List.length_append, rsq_len]
    have hvl := hs.2.2.2.2.2.2 S.vs H.1.2.2.2.2.2.2.2.1.1 (fun a ha => (H.1.2.2.2.2.2.2.2.1.2 a ha).1)
    have hsn := H.1.2.2.1.1.2
    obtain ⟨H2, hx2, hsm2⟩ := H.tk (s := s0 + i) b6 (by rw [a1]; simp) b5 (by omega)
    rw [h2]
    refine hst S z.1 hn H.1.1.2.1 ?_
    rw [a3]
    refine PS_r0 (fun Q hq => t_know (m := S.kt.length) H.1.1.2.1 (by omega) H.1.2.2.2.2.2.1.2.1 hL hq) ?_
    have ht := H2.1.1.2.2 z.1 htn 32 rfl
    refine PS_rand (H2.1.1.2.1.i rfl hn) ?_
    have ht' : w_a (tkn S.t S.kt.length (i_ (s0 + i : Nat))) 12 0 32 z.1 = V.2.2.1 32 z.1 := ht
    rw [ht']
    refine n_kn (S := S.tk (tkn S.t S.kt.length (i_ (s0 + i : Nat))) (s0 + i)) (i := i + 1) hs hL hst H2 (by show (s0 + i) :: S.kt = _; rw [hk]; rfl) hlen h4 (ITL.st hI.2 hx2.1.w (fun z' _ => hsm2 z'.2.1)) (fun S' H' k1 k2 k3 k4 k5 k6 k7 k8 => ?_)
    refine kk S' H' (by rw [k1, show i + (z :: l).length = i + 1 + l.length by rw [List.length_cons]; omega]) k2 k3 k4 k5 k6 (hx2.tr k7 (.inl rfl)) (fun b => (hsm2 b).tr (k8 b))
/-- an expression below, where faults differ so far -/
theorem n_chT {A B : (kx_Rs → wS → Prop) → wS → Prop} {X Y : (kx_Rs → wS → Prop) → String → wS → Prop} (IH : NCE D V nu tn rt E' f) (hs : STR D V nu tn rt) (H : HM D V nu tn rt p J cr S0 S T T') (hk : KRE S kr) (hj : j ∉ J) (hj7 : 3 ≤ j ∧ j ≤ 7) (hq : V.2.1 p j = some q) (hC : CHx V tn nu k0 ol nq q dq) (hX : KX V nu f 0 q) (hL : 75 * k0 + 300 ≤ Lx) (hL' : 75 * k0 + 300 ≤ Lt)
    (kk : ∀ (S1 : nS) (T1 : Int), HM D V nu tn rt p (j :: J) cr S0 S1 (min T T1) (min T' T1) → FTK T1 → NDC S S1 → NX nu S S1 → (∀ b ∈ S.vs, SMN nu S S1 b) → (T1 = NOF → NE V nu S1 kr f Cv q) → PS (fun Q => A Q S1.w) (fun Q => B Q S1.t) Φ) :
    PS (fun Q => zw D.1 Lx kt_M140 [.ref (w_adr D.1.2.1 5 0), va_rf (some q)] S.w (wk0 (fun w1 => wle S.w w1 → A Q w1) (X Q))) (fun Q => zw E' Lt kt_M476 [.ref (w_adr E'.2.1 12 0), .int (i_ nq), .int 0] S.t (wk0 (fun t1 => wle S.t t1 → B Q t1) (Y Q))) Φ := by
  have hnk := hC.nk hs
  obtain ⟨I4, V4⟩ := H.go hs hj hj7 hq hnk.1 hnk.2
  have hch := IH _ kr q nq dq k0 ol Lx Lt 0 (.inl rfl) I4 hC hX V4 hk hL hL'
  refine PS_bind (gc1 := fun Q => zw D.1 Lx kt_M140 [.ref (w_adr D.1.2.1 5 0), va_rf (some q)] S.w Q) (gt1 := fun Q => zw E' Lt kt_M476 [.ref (w_adr E'.2.1 12 0), .int (i_ nq), .int 0] S.t Q) hch (fun r1 w2 r2 t2 hb => ?_)
  obtain ⟨S', T1, ⟨e1, e2, e3, e4⟩, HB, hx, hq, hT1, ⟨hu, hsm⟩, hA, hG⟩ := H.bk (J' := j :: J) ⟨H.2.2.1.1, H.2.2.1.2.1⟩ ⟨fun _ => List.mem_cons_self, fun i hi => List.mem_cons_of_mem _ hi⟩ hb
  subst e1 e2 e3 e4
  exact PS_l (fun Q a => fun _ => a) (PS_r (fun Q a => fun _ => a) (kk S' T1 HB hT1 hA hx (fun b hb => (hsm b hb).1) hG))
/-- MeetingHouse makes a symbol -/
theorem PS_sym {Kc : (kx_Rs → wS → Prop) → kx_Rs → wS → Prop} (H : HM D V nu tn rt p J cr S0 S T T') (hst : STR D V nu tn rt) (hc : 2 ≤ cr) (hL : 170 ≤ L) (kk : ∀ (A : Nat) (al' : List Nat) (w2 : wS), HM D V nu tn rt p J (cr - 2) S0 (S.sy w2 al') T T' → sdr w2 A (some (D.1.1.1 W)) x2 x3 → FRA D (S.sy w2 al') A → NX nu S (S.sy w2 al') → (∀ a k, w_i w2 14 a k = w_i S.w 14 a k ∧ w_p w2 14 a k = w_p S.w 14 a k) → (∀ b ∈ S.vs, SMN nu S (S.sy w2 al') b) → (∀ A' ∈ S.al.take S.am, (A' ≠ A ∧ A' ∈ al'.take (S.am + 1)) ∧ (∀ k, w_i w2 15 A' k = w_i S.w 15 A' k ∧ w_p w2 15 A' k = w_p S.w 15 A' k) ∧ (w_l S.w D.1.2.1 15 A' → w_l w2 D.1.2.1 15 A')) → (w_p w2 5 0 3 = w_p S.w 5 0 3 ∧ w_i w2 5 0 4 = w_i S.w 5 0 4) → PS (fun Q => Kc Q (.inl (some (va_rf (some A)))) w2) gt Φ) : PS (fun Q => zw D.1 L kt_M226 [.ref (w_adr D.1.2.1 3 0), va_rf (some (D.1.1.1 W)), .int x2, .int x3] S.w (Kc Q)) gt Φ := by
  have hvl := hst.2.2.2.2.2.2 S.vs H.1.2.2.2.2.2.2.2.1.1 (fun a ha => (H.1.2.2.2.2.2.2.2.1.2 a ha).1)
  have ham := H.1.2.1.2
  refine PS_lce (c_symbol (x1 := some (D.1.1.1 W)) (by omega) H.1.2.1.1 (by omega)) (fun rs w2 hle hb => ?_)
  obtain ⟨A, al', e, H2, hsd, hA, hx, h5, h14, hsm, hold⟩ := H.sy1 hc hb hle
  subst e
  exact kk A al' w2 H2 hsd hA hx h14 hsm hold h5
end ITR
