/-! ===== ROUNDS, part 17: a declaration's writes ===== -/
/-- MeetingHouse behind a declared name -/
def dcl (w : wS) (A : Nat) : wS := ws_p (ws_i (ws_i (ws_p w 15 A 4 (w_p w 5 0 3)) 5 0 4 ((w_i w 5 0 4) + 1)) 15 A 3 (w_i w 5 0 4)) 5 0 3 (some A)
def DCf (D : pD) (S : nS) (p A : Nat) (w' : wS) : Prop := SSO D.1 w' S.al S.am ∧ w_o w' = w_o S.w ∧ (∀ a k, w_i w' 14 a k = w_i S.w 14 a k) ∧ (∀ a k, (k = 16 ∧ a = p) ∨ w_p w' 14 a k = w_p S.w 14 a k) ∧ (∀ A', A' ≠ A → ∀ k, w_i w' 15 A' k = w_i S.w 15 A' k ∧ w_p w' 15 A' k = w_p S.w 15 A' k) ∧ (w_p w' 5 0 3 = some A ∧ w_i w' 5 0 4 = w_i S.w 5 0 4 + 1) ∧ (w_p w' 15 A 4 = w_p S.w 5 0 3 ∧ w_i w' 15 A 3 = w_i S.w 5 0 4) ∧ (w_i w' 2 0 1 = w_i S.w 2 0 1 ∧ w_i w' 2 0 2 = w_i S.w 2 0 2) ∧ FN S.w w'
def DTs (V : pV) (tn : Nat → Prop) (S : nS) (n : Nat) (t' : wS) : Prop := (∀ k, 45 ≤ k → k ≤ 55 → ∀ j, j ≠ S.sn → w_a t' 12 0 k j = w_a S.t 12 0 k j) ∧ w_a t' 12 0 60 = w_a S.t 12 0 60 ∧ w_a t' 12 0 57 = w_a S.t 12 0 57 ∧ (w_a t' 12 0 61 S.u = w_a S.t 12 0 61 S.u + i_ (lyk t' S.sn) ∧ ∀ j, j ≠ S.u → w_a t' 12 0 61 j = w_a S.t 12 0 61 j) ∧ (w_a t' 12 0 51 S.sn = i_ S.u ∧ w_a t' 12 0 52 S.sn = w_a S.t 12 0 61 S.u) ∧ ((w_i t' 12 0 44 = i_ (S.sn + 1 : Nat) ∧ w_i t' 12 0 56 = w_i S.t 12 0 56) ∧ w_i t' 12 0 59 = w_i S.t 12 0 59 ∧ w_i t' 12 0 62 = w_i S.t 12 0 62 ∧ w_i t' 12 0 64 = w_i S.t 12 0 64 ∧ w_i t' 12 0 65 = w_i S.t 12 0 65) ∧ TRTn V tn t' ∧ FTn S.t t' ∧ ∀ k j, (k = 31 ∨ k = 63 ∨ k = 66 ∨ k = 67) → j ≠ n → w_a t' 12 0 k j = w_a S.t 12 0 k j
section DWR
variable {D : pD} {V : pV} {nu : pN} {tn : Nat → Prop} {rt p q n r d j k s u A cr : Nat} {J : List Nat} {S S0 : nS} {w w2 w' t t' : wS} {v : Option Nat} {x x1 x2 x3 x4 x5 x6 : Int32} {T T' : Int} {kr : List Nat}
theorem FN.pz (h : FN w w') (hk : pNm s k = true) : FN w (ws_p w' s j k v) := h.tr (FN_p hk)
theorem FN.iz (h : FN w w') (hk : pNm s k = true) : FN w (ws_i w' s j k x) := h.tr (FN_i hk)
theorem DCf.d0 (h : SSO D.1 S.w S.al S.am) : DCf D S p A (dcl S.w A) := by
  unfold dcl
  refine ⟨((h.p.i (by decide)).i (by decide)).p, rfl, fun a k => ?_, fun a k => .inr ?_, fun A' hA k => ⟨?_, ?_⟩, ⟨?_, ?_⟩, ⟨?_, ?_⟩, ⟨?_, ?_⟩, ?_⟩
  all_goals try simp only [Rii, Rgi, Rpi, Rai, Rbi, Rri, Rni, Rdi, Roi, Rti, Rzi, RCi, RSi, Rip, Rgp, Rpp, Rap, Rbp, Rrp, Rnp, Rdp, Rop, Rtp, Rzp, RCp, RSp]
  all_goals try simp [*]
  exact (((FN_p rfl).tr (FN_i rfl)).tr (FN_i rfl)).tr (FN_p rfl)
theorem DCf.i (h : DCf D S p A w') (hk : k ≠ 3) : DCf D S p A (ws_i w' 15 A k x) := by
  obtain ⟨h1, h2, h3, h4, h5, h6, h7, h8, h9⟩ := h
  refine ⟨h1.i (by decide), h2, fun a k' => ?_, h4, fun A' hA k' => ⟨?_, (h5 A' hA k').2⟩, ⟨h6.1, ?_⟩, ⟨h7.1, ?_⟩, ⟨?_, ?_⟩, h9.tr (FN_i rfl)⟩
  · rw [Rii, if_neg (fun z => absurd z.2.1 (by decide))]; exact h3 a k'
  · rw [Rii, if_neg (fun z => hA z.2.2)]; exact (h5 A' hA k').1
  · rw [Rii, if_neg (fun z => absurd z.2.1 (by decide))]; exact h6.2
  · rw [Rii, if_neg (fun z => hk z.1.symm)]; exact h7.2
  · rw [Rii, if_neg (fun z => absurd z.2.1 (by decide))]; exact h8.1
  · rw [Rii, if_neg (fun z => absurd z.2.1 (by decide))]; exact h8.2
theorem DCf.pz (h : DCf D S p A w') (hk : k ≠ 4) : DCf D S p A (ws_p w' 15 A k v) := by
  obtain ⟨h1, h2, h3, h4, h5, h6, h7, h8, h9⟩ := h
  refine ⟨h1.p, h2, h3, fun a k' => (h4 a k').imp id (fun e => ?_), fun A' hA k' => ⟨(h5 A' hA k').1, ?_⟩, ⟨?_, h6.2⟩, ⟨?_, h7.2⟩, h8, h9.tr (FN_p rfl)⟩
  · rw [Rpp, if_neg (fun z => absurd z.2.1 (by decide))]; exact e
  · rw [Rpp, if_neg (fun z => hA z.2.2)]; exact (h5 A' hA k').2
  · rw [Rpp, if_neg (fun z => absurd z.2.1 (by decide))]; exact h6.1
  · rw [Rpp, if_neg (fun z => hk z.1.symm)]; exact h7.1
theorem DCf.qz (h : DCf D S p A w') : DCf D S p A (ws_p w' 14 p 16 v) := by
  obtain ⟨h1, h2, h3, h4, h5, h6, h7, h8, h9⟩ := h
  refine ⟨h1.p, h2, h3, fun a k' => ?_, fun A' hA k' => ⟨(h5 A' hA k').1, ?_⟩, ⟨?_, h6.2⟩, ⟨?_, h7.2⟩, h8, h9.tr (FN_p rfl)⟩
  · by_cases e : k' = 16 ∧ a = p
    · exact .inl e
    · refine .inr ?_
      rw [Rpp, if_neg (fun z => e ⟨z.1, z.2.2⟩)]
      exact (h4 a k').resolve_left e
  · rw [Rpp, if_neg (fun z => absurd z.2.1 (by decide))]; exact (h5 A' hA k').2
  · rw [Rpp, if_neg (fun z => absurd z.2.1 (by decide))]; exact h6.1
  · rw [Rpp, if_neg (fun z => absurd z.2.1 (by decide))]; exact h7.1
theorem lyk_tsy {c : Nat} (hc : c ≤ 9) : i_ (lyk (tsy t s u x1 (i_ c) x3 x4 x5 x6) s) = lz (i_ c) x4 := by
  unfold lyk lz
  rw [tsy_s.1.2.1, tsy_s.1.2.2.2.1]
  by_cases e : (i_ c : Int32) = 1 ∨ i_ c = 2 ∨ i_ c = 3 ∨ i_ c = 9
  · rw [if_pos e, if_pos e]
    by_cases e4 : x4 = -1
    · rw [if_pos e4, if_pos e4]; rfl
    · rw [if_neg e4, if_neg e4]; rfl
  · rw [if_neg e, if_neg e]; rfl
theorem DTs.t0 {c : Nat} (hc : c ≤ 9) (hT : TRTn V tn S.t) : DTs V tn S n (tsy S.t S.sn S.u x1 (i_ c) x3 x4 x5 x6) := by
  refine ⟨fun k h1 h2 j hj => tsy_o hj (.inl (by omega)), funext (fun j => tsy_k (by omega) (by decide)), funext (fun j => tsy_k (by omega) (by decide)), ⟨by rw [tsy_61.1, lyk_tsy hc], tsy_61.2⟩, ⟨tsy_s.2.1, tsy_s.2.2.1⟩, ⟨⟨tsy_44, tsy_i (by decide)⟩, tsy_i (by decide), tsy_i (by decide), tsy_i (by decide), tsy_i (by decide)⟩, ⟨hT.1.fr tsy_fr, fun m hm k hk => ?_⟩, tsy_fr, fun k j hk hj => tsy_k (by omega) (by omega)⟩
  rw [tsy_k]
  · exact hT.2 m hm k hk
  · unfold tlr at hk
    simp only [Bool.or_eq_true, Bool.and_eq_true, Nat.ble_eq, Nat.beq_eq] at hk
    omega
  · unfold tlr at hk
    simp only [Bool.or_eq_true, Bool.and_eq_true, Nat.ble_eq, Nat.beq_eq] at hk
    omega
theorem DTs.a31 (h : DTs V tn S n t') : DTs V tn S n (ws_a t' 12 0 31 n x) := by
  obtain ⟨h1, h2, h3, h4, h5, h6, h7, h8, h9⟩ := h
  have e : ∀ k j, k ≠ 31 → w_a (ws_a t' 12 0 31 n x) 12 0 k j = w_a t' 12 0 k j := fun k j hk => by rw [Raa, if_neg (fun z => hk z.1)]
  have ely : lyk (ws_a t' 12 0 31 n x) S.sn = lyk t' S.sn := by
    unfold lyk
    rw [e 46 _ (by decide), e 48 _ (by decide)]
  refine ⟨fun k a b j hj => (e k j (by omega)).trans (h1 k a b j hj), (funext (fun j => e 60 j (by decide))).trans h2, (funext (fun j => e 57 j (by decide))).trans h3, ⟨by rw [e 61 _ (by decide), ely]; exact h4.1, fun j hj => (e 61 j (by decide)).trans (h4.2 j hj)⟩, ⟨(e 51 _ (by decide)).trans h5.1, (e 52 _ (by decide)).trans h5.2⟩, h6, h7.a rfl, h8.tr (FTn_a (by decide)), fun k j hk hj => ?_⟩
  rw [Raa, if_neg (fun z => hj z.2.2.2)]
  exact h9 k j hk hj
theorem DTs.a5 (h : DTs V tn S n t') (hk : k = 53 ∨ k = 54 ∨ k = 55) : DTs V tn S n (ws_a t' 12 0 k S.sn x) := by
  obtain ⟨h1, h2, h3, h4, h5, h6, h7, h8, h9⟩ := h
  have e : ∀ k' j, k' ≠ k → w_a (ws_a t' 12 0 k S.sn x) 12 0 k' j = w_a t' 12 0 k' j := fun k' j hk => by rw [Raa, if_neg (fun z => hk z.1)]
  have ely : lyk (ws_a t' 12 0 k S.sn x) S.sn = lyk t' S.sn := by
    unfold lyk
    rw [e 46 _ (by omega), e 48 _ (by omega)]
  have hkr : tlr k = false := by rcases hk with e | e | e <;> rw [e] <;> rfl
  have hkn : KNn.any (Nat.beq k) = true := by rcases hk with e | e | e <;> rw [e] <;> rfl
  refine ⟨fun k' a b j hj => ?_, (funext (fun j => e 60 j (by omega))).trans h2, (funext (fun j => e 57 j (by omega))).trans h3, ⟨by rw [e 61 _ (by omega), ely]; exact h4.1, fun j hj => (e 61 j (by omega)).trans (h4.2 j hj)⟩, ⟨(e 51 _ (by omega)).trans h5.1, (e 52 _ (by omega)).trans h5.2⟩, h6, h7.a hkr, h8.tr (FTn_a hkn), fun k' j hk' hj => (e k' j (by omega)).trans (h9 k' j hk' hj)⟩
  rw [Raa, if_neg (fun z => hj z.2.2.2)]
  exact h1 k' a b j hj
theorem DTs.i58 (h : DTs V tn S n t') : DTs V tn S n (ws_i t' 12 0 58 x) := by
  obtain ⟨h1, h2, h3, h4, h5, ⟨⟨h6, h6b⟩, h6c, h6d, h6e, h6f⟩, h7, h8, h9⟩ := h
  have e : ∀ k, k ≠ 58 → w_i (ws_i t' 12 0 58 x) 12 0 k = w_i t' 12 0 k := fun k hk => by rw [Rii, if_neg (fun z => hk z.1)]
  exact ⟨h1, h2, h3, h4, h5, ⟨⟨(e 44 (by decide)).trans h6, (e 56 (by decide)).trans h6b⟩, (e 59 (by decide)).trans h6c, (e 62 (by decide)).trans h6d, (e 64 (by decide)).trans h6e, (e 65 (by decide)).trans h6f⟩, h7, h8.tr (frm_i (by decide)), h9⟩
/-- a name that is declared is known in both -/
theorem HM.dk (h : HM D V nu tn rt p J cr S0 S T T') (hA : FRA D S A) (hcr : S.sn + S0.vs.length + 1 ≤ S0.sn + S.vs.length) (hnu : nu p = some (n, r, d)) (hn : n < 14000) (hst : STR D V nu tn rt) (hc : DCf D S p A w') (ht : DTs V tn S n t') (hR : RS1 D V nu w' (tkn t' S.kt.length (i_ S.sn)) (ysU S.ys S.sn A) S.sn A) : HM D V nu tn rt p J (cr - cr % 2) S0 (S.de w' (tkn t' S.kt.length (i_ S.sn)) A) T T' ∧ NX nu S (S.de w' (tkn t' S.kt.length (i_ S.sn)) A) := by
  obtain ⟨g1, g2, g3, g4, g5, g6, g7, g8, g9⟩ := hc
  obtain ⟨h1, h2, h3, h4, h5, ⟨⟨h6, h6b⟩, h6c, h6d, h6e, h6f⟩, h7, h8, h9⟩ := ht
  have e : ∀ k j, k ≠ 57 → w_a (tkn t' S.kt.length (i_ S.sn)) 12 0 k j = w_a t' 12 0 k j := fun k j hk => by
    unfold tkn
    rw [Rai, Raa, if_neg (fun z => hk z.1)]
  have ei : ∀ k, k ≠ 56 → w_i (tkn t' S.kt.length (i_ S.sn)) 12 0 k = w_i t' 12 0 k := fun k hk => by
    unfold tkn
    rw [Rii, if_neg (fun z => hk z.1)]
    rfl
  have ely : lyk (tkn t' S.kt.length (i_ S.sn)) S.sn = lyk t' S.sn := by
    unfold lyk
    rw [e 46 _ (by decide), e 48 _ (by decide)]
  refine HM.dec h hA hcr hnu hn hst g1 g2 g3 g4 g5 g6 g7 g8 g9 (fun k a b j hj => (e k j (by omega)).trans (h1 k a b j hj)) ((funext (fun j => e 60 j (by decide))).trans h2) ⟨?_, fun j hj => ?_⟩ ⟨by rw [e 61 _ (by decide), ely]; exact h4.1, fun j hj => (e 61 j (by decide)).trans (h4.2 j hj)⟩ ⟨(e 51 _ (by decide)).trans h5.1, (e 52 _ (by decide)).trans h5.2⟩ ⟨⟨(ei 44 (by decide)).trans h6, ?_⟩, (ei 59 (by decide)).trans h6c, (ei 62 (by decide)).trans h6d, (ei 64 (by decide)).trans h6e, (ei 65 (by decide)).trans h6f⟩ ⟨h7.1, fun m hm k hk => ?_⟩ (h8.tr ((frm_a (by decide)).tr (frm_i (by decide)))) (fun k j hk hj => (e k j (by omega)).trans (h9 k j hk hj)) hR
  · unfold tkn
    rw [Rai, Raa, if_pos ⟨rfl, rfl, rfl, rfl⟩]
  · unfold tkn
    rw [Rai, Raa, if_neg (fun z => hj z.2.2.2)]
    exact congrFun h3 j
  · unfold tkn
    rw [Rii, if_pos ⟨rfl, rfl, rfl⟩]
  · rw [e]
    · exact h7.2 m hm k hk
    · intro e
      rw [e] at hk
      cases hk
end DWR
