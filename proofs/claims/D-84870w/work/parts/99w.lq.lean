/-! ===== PARSERS, part 23: lists at work ===== -/
/-- a list whose last one is to be linked; fwd: what MeetingHouse's last one tells already -/
def LQ (Pk : Int32 → Prop) (D : pD) (S : pS) (lo hi : Nat) (ol : pOL) (f : Option Nat) (fT : Int32) (bl : Option Nat) (nl : Int32) (fwd : Option Nat) (dd : Nat) : Prop :=
  ((f = none ∧ fT = -1) ∧ (bl = none ∧ nl = -1) ∧ dd = 0) ∨
  ∃ b n d1 d2 : Nat, (bl = some b ∧ nl = i_ n ∧ (∃ f0, f = some f0) ∧ dd = d1 + d2) ∧ (∃ k l, (∃ e1, (ol.2.2.2.2.1 ≤ e1 ∧ e1 ≤ ol.2.2.2.2.2) ∧ LPz (vw S.1 S.2.1) S.2.2.2.2.2.2 S.2.2.2.2.2.1 k (ol.1, ol.2.1, ol.2.2.1, ol.2.2.2.1, ol.2.2.2.2.1, e1) l f fT (some b) (i_ n) ∧ PND D S lo hi (ol.1, ol.2.1, ol.2.2.1, ol.2.2.2.1, e1, ol.2.2.2.2.2) b n d2) ∧ dsum l = d1 ∧ ∀ q ∈ l, Pk (w_a S.2.1 12 0 26 q.1)) ∧ PND D S lo hi ol b n d2 ∧ (w_p S.1 14 b 7 = fwd ∧ w_a S.2.1 12 0 32 n = -1) ∧ Pk (w_a S.2.1 12 0 26 n)
section LQS
variable {ex et : List Nat} {S S' S0 SA : pS} {D : pD} {K : pK} {p p0 q o o' oA dl m N n n2 b b2 lo hi lo2 hi2 r d d2 dd g : Nat} {w t w' t' : wS} {al : List Nat} {nu : pNz} {tn : Nat → Prop} {E E' : zE} {L L' : Nat} {ol : pOL} {f f2 : Option Nat} {fT fT2 : Int32} {Q : kx_Rs → wS → Prop} {fi : Nat → Int32} {fp : Nat → Option Nat} {ft : Nat → Int32} {Pk : Int32 → Prop} {bl fwd : Option Nat} {nl : Int32} {gc gt : pQ} {Φ : kx_Rs → wS → kx_Rs → wS → Prop}
theorem LQ.nil : LQ Pk D S lo hi ol none (-1) none (-1) fwd 0 := .inl ⟨⟨rfl, rfl⟩, ⟨rfl, rfl⟩, rfl⟩
theorem LQ.fr {R : Prop} (h : LQ Pk D S lo hi ol f fT bl nl fwd dd) (hs : SY D K S p q o o') (hf : R) (hx : ∀ a ∈ ex, S.2.2.2.2.2.1 a = none ∧ bl ≠ some a) (ht : ∀ y ∈ et, y < lo ∧ ¬ S.2.2.2.2.2.2 y) (hR : R → FRr ex et S S' := by first | exact fun h => FRr.cb (FR.rr h) | exact FR.rr | exact id) : LQ Pk D S' lo hi ol f fT bl nl fwd dd := by
  have hf := hR hf
  rcases h with h | ⟨b, n, d1, d2, ⟨e1, e2, e3, e4⟩, ⟨k, l, ⟨ex1, hex, h1, h1b⟩, h2, h2k⟩, h3, h4, h5⟩
  · exact .inl h
  have hbx : b ∉ ex := fun e => (hx b e).2 e1
  have hnt : n ∉ et := fun e => by have := (ht n e).1; have := h3.lt.2.1; omega
  have hva := VWa.fr hs hf (fun a h => (hx a h).1) (fun a h => (ht a h).2)
  refine .inr ⟨b, n, d1, d2, ⟨e1, e2, e3, e4⟩, ⟨k, l, ⟨ex1, hex, LPz.up hva hf.2.2.2.2.1.1 hf.2.2.2.2.1.2.1 (Nat.le_refl _) h1 OLw.rf, h1b.fr hs hf hbx (fun a h => (hx a h).1) ht⟩, h2, fun q hq => ?_⟩, h3.fr hs hf hbx (fun a h => (hx a h).1) ht, ⟨((hf.2.2.1 b h3.bm.1 hbx 7).2).trans h4.1, (hf.2.2.2.1 n h3.lt.1 hnt 32 (.inl (by decide))).trans h4.2⟩, ?_⟩
  · have e : w_a S'.2.1 12 0 26 q.1 = w_a S.2.1 12 0 26 q.1 := hva.2.1 26 q.1 (LPz.mem h1 q hq).tnx (.inl (by decide))
    rw [e]
    exact h2k q hq
  · rw [hf.2.2.2.1 n h3.lt.1 hnt 26 (.inl (by decide))]
    exact h5
/-- only next ones are written, of nodes that are not done -/
theorem PND.wn {a : Nat} {v : Option Nat} (h : PND D (w, t, al, m, N, nu, tn) lo hi ol b n d) (ha : nu a = none) : PND D (ws_p w 14 a 7 v, t, al, m, N, nu, tn) lo hi ol b n d := by
  obtain ⟨hh, own, c, m', r, h1, h2, h3, h4, h5, h6, h7⟩ := h
  have hv : VW (vw w t) (vw (ws_p w 14 a 7 v) t) tn (fun x => x ∈ own) nu b m' := by
    refine ⟨⟨fun a' ha' => ⟨rfl, funext (fun k => ?_)⟩, fun k y hy hk => rfl, rfl⟩, ⟨fun _ _ => rfl, fun j hj => ?_⟩, fun k y _ hk _ => rfl⟩
    · show w_p (ws_p w 14 a 7 v) 14 a' k = w_p w 14 a' k
      rw [Rpp, if_neg (fun z => ha' (by rw [z.2.2]; exact ha))]
    · show w_p (ws_p w 14 a 7 v) 14 b j = w_p w 14 b j
      rw [Rpp, if_neg (fun z => hj z.1)]
  exact ⟨hh, own, c, m', r, PCH.up (V := vw w t) (V' := vw (ws_p w 14 a 7 v) t) (fun y _ k hk _ => rfl) h1, h2, h3, h4.up hv (fun _ _ h => h) (fun _ h => h) (fun _ h => h) (Nat.le_refl _), h5, h6, h7⟩
/-- another node of MeetingHouse is written -/
theorem PND.wo {a k : Nat} {v : Option Nat} (h : PND D (w, t, al, m, N, nu, tn) lo hi ol b n d) (ha : nu a = none) (hab : a ≠ b) : PND D (ws_p w 14 a k v, t, al, m, N, nu, tn) lo hi ol b n d := by
  obtain ⟨hh, own, c, m', r, h1, h2, h3, h4, h5, h6, h7⟩ := h
  have hv : VW (vw w t) (vw (ws_p w 14 a k v) t) tn (fun x => x ∈ own) nu b m' := by
    refine ⟨⟨fun a' ha' => ⟨rfl, funext (fun k' => ?_)⟩, fun k y hy hk => rfl, rfl⟩, ⟨fun _ _ => rfl, fun j hj => ?_⟩, fun k y _ hk _ => rfl⟩
    · show w_p (ws_p w 14 a k v) 14 a' k' = w_p w 14 a' k'
      rw [Rpp, if_neg (fun z => ha' (by rw [z.2.2]; exact ha))]
    · show w_p (ws_p w 14 a k v) 14 b j = w_p w 14 b j
      rw [Rpp, if_neg (fun z => hab z.2.2.symm)]
  exact ⟨hh, own, c, m', r, PCH.up (V := vw w t) (V' := vw (ws_p w 14 a k v) t) (fun y _ k hk _ => rfl) h1, h2, h3, h4.up hv (fun _ _ h => h) (fun _ h => h) (fun _ h => h) (Nat.le_refl _), h5, h6, h7⟩
theorem PND.hiu {hi' : Nat} (h : PND D S lo hi ol b n d) (h1 : hi ≤ hi') (h2 : hi' ≤ S.2.2.2.2.1) : PND D S lo hi' ol b n d := by
  obtain ⟨hh, own, c, m', r, h1', h2', h3, h4⟩ := h
  exact ⟨h2, own, c, m', r, h1', h2', fun x hx => ⟨(h3 x hx).1, by have := (h3 x hx).2; omega⟩, h4⟩
theorem LQ.oth {a k : Nat} {v : Option Nat} (h : LQ Pk D (w, t, al, m, N, nu, tn) lo hi ol f fT bl nl fwd dd) (ha : nu a = none) (hab : bl ≠ some a) : LQ Pk D (ws_p w 14 a k v, t, al, m, N, nu, tn) lo hi ol f fT bl nl fwd dd := by
  rcases h with h | ⟨b, n, d1, d2, ⟨e1, e2, e3, e4⟩, ⟨k', l, ⟨ex1, hex, h1, h1b⟩, h2, h2k⟩, h3, h4, h5⟩
  · exact .inl h
  have hb : a ≠ b := fun e => hab (by rw [e]; exact e1)
  have hva : VWa (vw w t) (vw (ws_p w 14 a k v) t) tn nu := ⟨fun a' ha' => ⟨rfl, funext (fun k' => by
    show w_p (ws_p w 14 a k v) 14 a' k' = w_p w 14 a' k'
    rw [Rpp, if_neg (fun z => ha' (by rw [z.2.2]; exact ha))])⟩, fun _ _ _ _ => rfl, rfl⟩
  exact .inr ⟨b, n, d1, d2, ⟨e1, e2, e3, e4⟩, ⟨k', l, ⟨ex1, hex, LPz.up (V' := vw (ws_p w 14 a k v) t) hva (fun _ _ h => h) (fun _ h => h) (Nat.le_refl _) h1 OLw.rf, h1b.wo ha hb⟩, h2, h2k⟩, h3.wo ha hb, ⟨by
    show w_p (ws_p w 14 a k v) 14 b 7 = _
    rw [Rpp, if_neg (fun z => hb z.2.2.symm)]
    exact h4.1, h4.2⟩, h5⟩
theorem LQ.nlb (h : LQ Pk D S lo hi ol f fT bl nl fwd dd) (hs : SY D K S p q o o') : (bl = none ∧ nl = -1 ∧ f = none ∧ fT = -1 ∧ dd = 0) ∨ ∃ b n : Nat, bl = some b ∧ nl = i_ n ∧ (b ∈ S.2.2.1.take S.2.2.2.1 ∧ S.2.2.2.2.2.1 b = none) ∧ (∃ f0, f = some f0) ∧ ∃ n0 : Nat, fT = i_ n0 ∧ n0 < S.2.2.2.2.1 := by
  rcases h with h | ⟨b, n, d1, d2, ⟨e1, e2, e3, e4⟩, ⟨k', l, ⟨ex1, hex, h1, h1b⟩, h2, h2k⟩, h3, h4, h5⟩
  · exact .inl ⟨h.2.1.1, h.2.1.2, h.1.1, h.1.2, h.2.2⟩
  refine .inr ⟨b, n, e1, e2, h3.bm, e3, ?_⟩
  cases l with
  | nil => exact ⟨n, h1.2, h3.lt.1⟩
  | cons q r => exact ⟨q.1, h1.2.1, hs.gl.2 _ h1.2.2.choose_spec.2.1.tnx⟩
theorem LQ.wk {ol' : pOL} (h : LQ Pk D S lo hi ol f fT bl nl fwd dd) (ho : OLw ol ol' := by first | exact OLw.rf | exact OLw.mk (by omega) (by omega) (by omega) | exact OLw.mn (by omega) (by omega) (by omega)) : LQ Pk D S lo hi ol' f fT bl nl fwd dd := by
  rcases h with h | ⟨b, n, d1, d2, e1, ⟨k', l, ⟨ex1, hex, h1, h1b⟩, h2⟩, h3, h4⟩
  · exact .inl h
  · obtain ⟨o1, o2, o3, o4, o5, o6⟩ := ho
    exact .inr ⟨b, n, d1, d2, e1, ⟨k', l, ⟨ex1, ⟨Nat.le_trans o5 hex.1, Nat.le_trans hex.2 o6⟩, LPz.wk h1 ⟨o1, o2, o3, o4, o5, Nat.le_refl _⟩, h1b.wk ⟨o1, o2, o3, o4, Nat.le_refl _, o6⟩⟩, h2⟩, h3.wk ⟨o1, o2, o3, o4, o5, o6⟩, h4⟩
theorem HD.bh (hd : HD (w, t, al, m, N, nu, tn) f) (h : LQ Pk D (w, t, al, m, N, nu, tn) lo hi ol f fT bl nl fwd dd) (hn2 : nu b2 = none) (hbb : bl ≠ some b2) (hw : w' = w ∨ ∃ a, bl = some a ∧ w' = ws_p w 14 a 7 (some b2)) {N' : Nat} {nu' : pNz} {tn' : Nat → Prop} : HD (w', t', al, m, N', nu', tn') f := by
  rcases hw with e | ⟨a, e, e2⟩
  · subst e
    exact hd
  · subst e2
    intro q eq
    refine ⟨(hd q eq).1, NRw.wp (hd q eq).2 (.inr (fun e3 => ?_))⟩
    cases e3
    rcases h with h | ⟨b, n, d1, d2, ⟨e1, e2, e3, e4⟩, ⟨k', l, ⟨ex1, hex, h1, h1b⟩, h2, h2k⟩, h3, h4, h5⟩
    · rw [h.2.1.1] at e
      cases e
    · rcases LPz.hd h1 eq with e5 | e5
      · exact hbb (by rw [e1, e5])
      · exact e5 hn2
theorem HDN.stp {w3 : wS} {b1 : Nat} (hf : HDN SA (w, t, al, m, N, nu, tn) f) (h : LQ Pk D (w, t, al, m, N, nu, tn) lo hi ol f fT bl nl fwd dd) (hb : b1 ∈ al.take m) (hbn : nu b1 = none) (hnr : NRw w (al.take m) b1) (hb1 : b1 ∉ SA.2.2.1.take SA.2.2.2.1) (hbb : bl ≠ some b1) (hw : w3 = w ∨ ∃ a, bl = some a ∧ w3 = ws_p w 14 a 7 (some b1)) {t' : wS} {N' : Nat} {nu' : pNz} {tn' : Nat → Prop} : HDN SA (w3, t', al, m, N', nu', tn') (if bl = none then some b1 else f) := by
  by_cases e : bl = none
  · rw [if_pos e]
    rcases hw with e2 | ⟨a, e2, -⟩
    · subst e2
      intro q e3
      cases e3
      exact ⟨hb, hnr, hb1⟩
    · rw [e] at e2
      cases e2
  · rw [if_neg e]
    exact (HD.bh hf.hd h hbn hbb hw).new (fun q e => (hf q e).2.2)
theorem HDN.stf {w3 : wS} {b1 : Nat} (hf : HDN SA (w, t, al, m, N, nu, tn) f) (h : LQ Pk D (w, t, al, m, N, nu, tn) lo hi ol f fT bl nl fwd dd) (hb : b1 ∈ al.take m) (hbn : nu b1 = none) (hnr : NRw w (al.take m) b1) (hb1 : b1 ∉ SA.2.2.1.take SA.2.2.2.1) (hbb : bl ≠ some b1) (hw : w3 = w ∨ ∃ a, bl = some a ∧ w3 = ws_p w 14 a 7 (some b1)) {t' : wS} {N' : Nat} {nu' : pNz} {tn' : Nat → Prop} {f' : Option Nat} {X Y : Prop} (hf' : (bl = none ∧ f' = some b1 ∧ X) ∨ (bl ≠ none ∧ f' = f ∧ Y)) : HDN SA (w3, t', al, m, N', nu', tn') f' := by
  have g := HDN.stp hf h hb hbn hnr hb1 hbb hw (t' := t') (N' := N') (nu' := nu') (tn' := tn')
  rcases hf' with ⟨e1, e2, -⟩ | ⟨e1, e2, -⟩
  · rw [if_pos e1] at g
    rw [e2]
    exact g
  · rw [if_neg e1] at g
    rw [e2]
    exact g
/-- MeetingHouse links the last one to a new one -/
theorem PSq_behind {A : (kx_Rs → wS → Prop) → Option Nat → wS → Prop} {X : (kx_Rs → wS → Prop) → String → wS → Prop} (hL : 60 ≤ L) (H : HY D K ex et SA (w, t, al, m, N, nu, tn) p q o o') (h : LQ Pk D (w, t, al, m, N, nu, tn) lo hi ol f fT bl nl none dd) (hb0 : ∀ a, bl = some a → a ∉ SA.2.2.1.take SA.2.2.2.1) (hl : LKO SA (w, t, al, m, N, nu, tn) 7 (some b2))
    (k : ∀ w', (w' = w ∨ ∃ a, bl = some a ∧ w' = ws_p w 14 a 7 (some b2)) → HY D K ex et SA (w', t, al, m, N, nu, tn) p q o o' → LQ Pk D (w', t, al, m, N, nu, tn) lo hi ol f fT bl nl (some b2) dd → PS (fun Q => A Q (some b2) w') gt Φ) :
    PS (fun Q => zw D.1 L kt_M166 [va_rf bl, va_rf (some b2)] w (wkr (fun v w1 => wle w w1 → A Q v w1) (X Q))) gt Φ := by
  rcases h with h | ⟨b, n, d1, d2, ⟨e1, e2, e3, e4⟩, ⟨k', l, ⟨ex1, hex, h1, h1b⟩, h2, h2k⟩, h3, h4, h5⟩
  · rw [h.2.1.1]
    exact PS_lr (fun Q hq => c_behind0 (by omega) hq) (k w (.inl rfl) H (.inl h))
  · subst e1
    have hbm := h3.bm
    have hbl : w_l w D.1.2.1 14 b := (H.1.2.2.1.2.2.2.2.1 b (List.mem_of_mem_take hbm.1)).1
    refine PS_lr (fun Q hq => c_behind (by omega) hbl hq) (k _ (.inr ⟨b, rfl, rfl⟩) (H.wp hbm.2 (fun e => absurd e (hb0 b rfl)) hl) (.inr ⟨b, n, d1, d2, ⟨rfl, e2, e3, e4⟩, ⟨k', l, ⟨ex1, hex, ?_, h1b.wn hbm.2⟩, h2, h2k⟩, h3.wn hbm.2, ⟨by
      show w_p (ws_p w 14 b 7 (some b2)) 14 b 7 = _
      rw [Rpp, if_pos ⟨rfl, rfl, rfl⟩], h4.2⟩, h5⟩))
    refine LPz.up (V := vw w t) (tn := tn) (nu := nu) (V' := vw (ws_p w 14 b 7 (some b2)) t) (tn' := tn) (nu' := nu) ⟨fun a' ha' => ⟨rfl, funext (fun k' => ?_)⟩, fun _ _ _ _ => rfl, rfl⟩ (fun _ _ h => h) (fun _ h => h) (Nat.le_refl _) h1 OLw.rf
    show w_p (ws_p w 14 b 7 (some b2)) 14 a' k' = w_p w 14 a' k'
    rw [Rpp, if_neg (fun z => ha' (by rw [z.2.2]; exact hbm.2))]
/-- another one stays where the twin writes a node's next one, and that is done -/
theorem PND.ot2 (h : PND D (w, t, al, m, N, nu, tn) lo2 hi2 ol b2 n2 d2) (hb : b2 ≠ b) (hn : n < lo2) (hnb : nu b = none) (hnt : ¬ tn n) {v' : Int32} {x : Nat × pR × Nat} {tn' : Nat → Prop} (h1t : ∀ y, tn y → tn' y) (h2t : ∀ y, tn' y → tn y ∨ (lo ≤ y ∧ y < hi)) (hhi : hi ≤ lo2) : PND D (w, ws_a t 12 0 32 n v', al, m, N, nuU nu b x, tn') lo2 hi2 ol b2 n2 d2 := by
  obtain ⟨hh, own, c, m', r, h1, h2, h3, h4, h5, h6, h7⟩ := h
  have ht : ∀ k y, y ∈ own → w_a (ws_a t 12 0 32 n v') 12 0 k y = w_a t 12 0 k y := by
    intro k y hy
    rw [Raa, if_neg (fun z => by have := (h3 y hy).1.2; have := z.2.2.2; omega)]
  have hv : VW (vw w t) (vw w (ws_a t 12 0 32 n v')) tn (fun x => x ∈ own) nu b2 m' := by
    refine ⟨⟨fun a ha => ⟨rfl, rfl⟩, fun k y hy hk => ?_, rfl⟩, ⟨fun _ _ => rfl, fun j hj => rfl⟩, fun k y hy hk _ => ht k y (by
      rcases hy with hy | hy
      · exact hy
      · rw [hy]
        exact h2 m' List.mem_cons_self)⟩
    show w_a (ws_a t 12 0 32 n v') 12 0 k y = w_a t 12 0 k y
    rw [Raa, if_neg (fun z => hnt (by rw [← z.2.2.2]; exact hy))]
  refine ⟨hh, own, c, m', r, PCH.up (V := vw w t) (V' := vw w (ws_a t 12 0 32 n v')) (fun y hy k _ _ => ht k y (h2 y hy)) h1, h2, fun y hy => ⟨⟨fun e => ?_, (h3 y hy).1.2⟩, (h3 y hy).2⟩, h4.up hv (nle_nuU hnb) h1t (fun _ h => h) (Nat.le_refl _), h5, ⟨h6.1, ?_⟩, h7.cv (ht 27 n2 (h2 n2 h1.mem)) (ht 26 m' (h2 m' List.mem_cons_self))⟩
  · rcases h2t y e with h | h
    · exact (h3 y hy).1.1 h
    · have := (h3 y hy).1.2
      omega
  · show nuU nu b x b2 = none
    unfold nuU
    rw [if_neg hb]
    exact h6.2
/-- the twin's next one alone -/
theorem PND.nt (h : PND D (w, t, al, m, N, nu, tn) lo hi ol b n d) {v' : Int32} : PND D (w, ws_a t 12 0 32 n v', al, m, N, nu, tn) lo hi ol b n d := by
  obtain ⟨hh, own, c, m', r, h1, h2, h3, h4, h5, h6, h7⟩ := h
  have hn : n ∈ own := h2 n h1.mem
  have ht : ∀ k y, k ≠ 32 → w_a (ws_a t 12 0 32 n v') 12 0 k y = w_a t 12 0 k y := by
    intro k y hk
    rw [Raa, if_neg (fun z => hk z.1)]
  have hv : VW (vw w t) (vw w (ws_a t 12 0 32 n v')) tn (fun x => x ∈ own) nu b m' := by
    refine ⟨⟨fun a ha => ⟨rfl, rfl⟩, fun k y hy hk => ?_, rfl⟩, ⟨fun _ _ => rfl, fun j hj => rfl⟩, fun k y _ hk _ => ht k y hk⟩
    show w_a (ws_a t 12 0 32 n v') 12 0 k y = w_a t 12 0 k y
    rw [Raa, if_neg (fun z => (h3 n hn).1.1 (by rw [← z.2.2.2]; exact hy))]
  exact ⟨hh, own, c, m', r, PCH.up (V := vw w t) (V' := vw w (ws_a t 12 0 32 n v')) (fun y _ k hk _ => ht k y hk) h1, h2, h3, h4.up hv (fun _ _ h => h) (fun _ h => h) (fun _ h => h) (Nat.le_refl _), h5, h6, h7.cv (ht 27 n (by decide)) (ht 26 m' (by decide))⟩
/-- what a list brings that is there, where the twin has linked -/
def AFT (lo hi n : Nat) (w t : wS) (nu : pNz) (tn : Nat → Prop) (t' : wS) (nu' : pNz) (tn' : Nat → Prop) : Prop := (VWa (vw w t) (vw w t') tn nu ∧ nle nu nu') ∧ ((∀ y, tn y → tn' y) ∧ ∀ y, tn' y → tn y ∨ (lo ≤ y ∧ y < hi)) ∧ (∀ k y, w_a t' 12 0 k y ≠ w_a t 12 0 k y → k = 32 ∧ y = n) ∧ TX t t'
/-- the twin links the last one to one that is read -/
theorem LQ.link {l1 : Option Int32} {cl1 bd1 bd2 sA eA sB eB : Nat} {g1 : Nat → Nat} (h : LQ Pk D (w, t, al, m, N, nu, tn) lo hi (l1, cl1, bd1, g1, sA, eA) f fT bl nl fwd dd) (H : HY D K ex et SA (w, t, al, m, N, nu, tn) p q o o') (hP : PND D (w, t, al, m, N, nu, tn) lo2 hi2 (l1, cl1, bd2, g1, sB, eB) b2 n2 d2) (hX : NXo (w, t, al, m, N, nu, tn) b2 n2) (hbb : bl ≠ some b2) (hhi : hi ≤ lo2) (hlo2 : lo ≤ lo2) (hfw : bl = none ∨ fwd = some b2) (hb0 : ∀ a, bl = some a → a ∉ SA.2.2.1.take SA.2.2.2.1) (hlo : SA.2.2.2.2.1 ≤ lo) (hk : Pk (w_a t 12 0 26 n2)) (hf2 : (bl = none ∧ f2 = some b2 ∧ fT2 = i_ n2) ∨ (bl ≠ none ∧ f2 = f ∧ fT2 = fT)) (hes : sA ≤ eA ∧ eA ≤ sB) (hbd : bd1 ≤ eB - sA ∧ bd2 ≤ eB - sA) : (bl = none ∧ LQ Pk D (w, t, al, m, N, nu, tn) lo hi2 (l1, cl1, eB - sA, g1, sA, eB) f2 fT2 (some b2) (i_ n2) none d2 ∧ dd = 0) ∨ ∃ (n : Nat) (nu' : pNz) (tn' : Nat → Prop), (nl = i_ n ∧ lo ≤ n ∧ n < hi ∧ n < 14000 ∧ bl ≠ none) ∧ HY D K ex et SA (w, ws_a t 12 0 32 n (i_ n2), al, m, N, nu', tn') p q o o' ∧ LQ Pk D (w, ws_a t 12 0 32 n (i_ n2), al, m, N, nu', tn') lo hi2 (l1, cl1, eB - sA, g1, sA, eB) f2 fT2 (some b2) (i_ n2) none (dd + d2) ∧ AFT lo hi n w t nu tn (ws_a t 12 0 32 n (i_ n2)) nu' tn' := by
  have hP1 : PND D (w, t, al, m, N, nu, tn) lo2 hi2 (l1, cl1, eB - sA, g1, eA, eB) b2 n2 d2 := hP.wk (OLw.mk hbd.2 hes.2 (Nat.le_refl _))
  have hP0 : PND D (w, t, al, m, N, nu, tn) lo2 hi2 (l1, cl1, eB - sA, g1, sA, eB) b2 n2 d2 := hP1.wk (OLw.mk (Nat.le_refl _) hes.1 (Nat.le_refl _))
  have hse := hP.se.1
  rcases h with ⟨⟨h1, h2⟩, ⟨h3, h4⟩, h5⟩ | ⟨b, n, d1, d2', ⟨e1, e2, e3, e4⟩, ⟨k, l, ⟨ex1, hex, h1, h1b⟩, h2, h2k⟩, h3, h4, h5⟩
  · refine .inl ⟨h3, ?_, h5⟩
    rcases hf2 with ⟨-, e1, e2⟩ | ⟨e, -⟩
    · subst e1 e2
      exact .inr ⟨b2, n2, 0, d2, ⟨rfl, rfl, ⟨b2, rfl⟩, by omega⟩, ⟨0, [], ⟨sA, ⟨Nat.le_refl _, by show sA ≤ eB; omega⟩, ⟨rfl, rfl⟩, hP0.low hlo2⟩, rfl, fun _ h => absurd h List.not_mem_nil⟩, hP0.low hlo2, hX, hk⟩
    · exact absurd h3 e
  · subst e1
    rcases hf2 with ⟨e, -⟩ | ⟨-, r1, r2⟩
    · cases e
    subst r1 r2
    rcases hfw with e | e
    · cases e
    subst e
    have hbb : b2 ≠ b := fun e => hbb (by rw [e])
    have h1 : LPz (vw w t) tn nu k (l1, cl1, bd1, g1, sA, ex1) l f2 fT2 (some b) (i_ n) := h1
    have h1b : PND D (w, t, al, m, N, nu, tn) lo hi (l1, cl1, bd1, g1, ex1, eA) b n d2' := h1b
    have hex : sA ≤ ex1 ∧ ex1 ≤ eA := hex
    have hbm := h3.bm
    have hnl := h3.lt
    have hn2 := hP.lt
    have hnh : n < hi := hnl.2.2.2.2
    have H1 := H.ta (k := 32) (n := n) (v := i_ n2) rfl hnl.2.2.1 (fun e => absurd e (by have := hnl.2.1; omega))
    have hva : VWa (vw w t) (vw w (ws_a t 12 0 32 n (i_ n2))) tn nu := ⟨fun _ _ => ⟨rfl, rfl⟩, fun k y hy _ => by
      show w_a (ws_a t 12 0 32 n (i_ n2)) 12 0 k y = w_a t 12 0 k y
      rw [Raa, if_neg (fun z => hnl.2.2.1 (by rw [← z.2.2.2]; exact hy))], rfl⟩
    obtain ⟨x, tn', r, H2, hC, hm1, hm2, hn0⟩ := H1.fin h1b.nt (hb0 b rfl) hlo
    have hke : ∀ y, Pk (w_a t 12 0 26 y) → Pk (w_a (ws_a t 12 0 32 n (i_ n2)) 12 0 26 y) := fun y hy => by
      rw [Raa, if_neg (fun z => absurd z.1 (by decide))]
      exact hy
    refine .inr ⟨n, nuU nu b x, tn', ⟨e2, hnl.2.1, hnh, hnl.2.2.2.1, by simp⟩, H2, .inr ⟨b2, n2, d1 + d2', d2, ⟨rfl, rfl, e3, by omega⟩, ⟨0, l ++ [(n, b, d2')], ⟨eA, ⟨hes.1, by show eA ≤ eB; omega⟩, ?_, (hP1.ot2 hbb (by omega) hbm.2 hnl.2.2.1 hm1 hm2 hhi).low hlo2⟩, by rw [dsum_snoc, h2], fun q hq => ?_⟩, (hP0.ot2 hbb (by omega) hbm.2 hnl.2.2.1 hm1 hm2 hhi).low hlo2, ⟨?_, ?_⟩, hke n2 hk⟩, ⟨hva, nle_nuU hbm.2⟩, ⟨hm1, hm2⟩, fun k y hne => ?_, TX_ta rfl⟩
    · have y1 : (vw w (ws_a t 12 0 32 n (i_ n2))).2.1 b 7 = some b2 := h4.1
      have y2 : (vw w (ws_a t 12 0 32 n (i_ n2))).2.2.1 32 n = i_ n2 := by
        show w_a (ws_a t 12 0 32 n (i_ n2)) 12 0 32 n = _
        rw [Raa, if_pos ⟨rfl, rfl, rfl, rfl⟩]
      have hs := LPz.snoc (k := 0) (bd := eB - sA) (q := (n, b, d2')) (LPz.up (k' := 0) hva (nle_nuU (x := x) hbm.2) hm1 (Nat.le_refl _) h1 (OLw.mk hbd.1 (Nat.le_refl _) (Nat.le_refl _))) (hC.up (k' := 0) (V' := vw w (ws_a t 12 0 32 n (i_ n2))) ⟨fun _ _ => ⟨rfl, rfl⟩, fun _ _ _ _ => rfl, rfl⟩ (fun _ _ h => h) (fun _ h => h) (Nat.le_refl _) (OLw.mk hbd.1 (Nat.le_refl _) (Nat.le_refl _))) hex.1
      rw [y1, y2] at hs
      exact hs
    · rcases List.mem_append.mp hq with e | e
      · exact hke _ (h2k q e)
      · simp at e
        subst e
        exact hke _ h5
    · exact hX.1
    · show w_a (ws_a t 12 0 32 n (i_ n2)) 12 0 32 n2 = -1
      rw [Raa, if_neg (fun z => by have := z.2.2.2; omega)]
      exact hX.2
    · rw [Raa] at hne
      by_cases hc : k = 32 ∧ (12 : Nat) = 12 ∧ (0 : Nat) = 0 ∧ y = n
      · exact ⟨hc.1, hc.2.2.2⟩
      · rw [if_neg hc] at hne
        exact absurd rfl hne
/-- the list ends -/
theorem LQ.done (h : LQ Pk D (w, t, al, m, N, nu, tn) lo hi ol f fT bl nl none dd) (H : HY D K ex et SA (w, t, al, m, N, nu, tn) p q o o') (hb0 : ∀ a, bl = some a → a ∉ SA.2.2.1.take SA.2.2.2.1) (hlo : SA.2.2.2.2.1 ≤ lo) : ∃ nu' tn' k, HY D K ex et SA (w, t, al, m, N, nu', tn') p q o o' ∧ (∃ l, LSz (vw w t) tn' nu' k ol l f fT ∧ dd = dsum l ∧ (bl ≠ none → l ≠ []) ∧ ∀ q ∈ l, Pk (w_a t 12 0 26 q.1)) ∧ (nle nu nu' ∧ (∀ y, tn y → tn' y) ∧ ∀ y, tn' y → tn y ∨ (lo ≤ y ∧ y < hi)) := by
  rcases h with ⟨⟨h1, h2⟩, ⟨h3, h4⟩, h5⟩ | ⟨b, n, d1, d2, ⟨e1, e2, e3, e4⟩, ⟨k, l, ⟨ex1, hex, h1, h1b⟩, h2, h2k⟩, h3, h4, h5⟩
  · refine ⟨nu, tn, 0, H, ⟨[], ⟨h1, h2⟩, h5, fun e => absurd h3 e, fun _ h => absurd h List.not_mem_nil⟩, fun _ _ h => h, fun _ h => h, fun _ h => .inl h⟩
  · have hbm := h3.bm
    obtain ⟨x, tn', r, H2, hC, hm1, hm2, hn0⟩ := H.fin h1b (hb0 b e1) hlo
    have hs := LPz.snoc (k := 0) (q := (n, b, d2)) (LPz.up (k' := 0) (V' := vw w t) ⟨fun _ _ => ⟨rfl, rfl⟩, fun _ _ _ _ => rfl, rfl⟩ (nle_nuU (x := x) hbm.2) hm1 (Nat.le_refl _) h1 OLw.rf) (hC.up (k' := 0) (V' := vw w t) ⟨fun _ _ => ⟨rfl, rfl⟩, fun _ _ _ _ => rfl, rfl⟩ (fun _ _ h => h) (fun _ h => h) (Nat.le_refl _) OLw.rf) hex.1
    have g1 : (vw w t).2.1 b 7 = none := h4.1
    have g2 : (vw w t).2.2.1 32 n = -1 := h4.2
    rw [g1, g2] at hs
    exact ⟨nuU nu b x, tn', 0, H2, ⟨l ++ [(n, b, d2)], hs, by rw [dsum_snoc, h2, e4], fun _ => by simp, fun q hq => (List.mem_append.mp hq).elim (h2k q) (fun e => by
      simp at e
      subst e
      exact h5)⟩, nle_nuU hbm.2, hm1, hm2⟩
/-- the twin's call that links -/
theorem PSq_chain {l1 : Option Int32} {cl1 bd1 bd2 s1 e1 s2 e2 : Nat} {g1 : Nat → Nat} {B : (kx_Rs → wS → Prop) → Int32 → wS → Prop} {X : (kx_Rs → wS → Prop) → String → wS → Prop} (hL : 60 ≤ L') (h : LQ Pk D (w, t, al, m, N, nu, tn) lo hi (l1, cl1, bd1, g1, s1, e1) f fT bl nl fwd dd) (H : HY D K ex et SA (w, t, al, m, N, nu, tn) p q o o') (hP : PND D (w, t, al, m, N, nu, tn) lo2 hi2 (l1, cl1, bd2, g1, s2, e2) b2 n2 d2) (hX : NXo (w, t, al, m, N, nu, tn) b2 n2) (hbb : bl ≠ some b2) (hhi : hi ≤ lo2) (hlo2 : lo ≤ lo2) (hfw : bl = none ∨ fwd = some b2) (hb0 : ∀ a, bl = some a → a ∉ SA.2.2.1.take SA.2.2.2.1) (hlo : SA.2.2.2.2.1 ≤ lo) (hk : Pk (w_a t 12 0 26 n2)) (hf2 : (bl = none ∧ f2 = some b2 ∧ fT2 = i_ n2) ∨ (bl ≠ none ∧ f2 = f ∧ fT2 = fT))
    (k : ∀ t' nu' tn' nx, (lo ≤ nx) → HY D K ex et SA (w, t', al, m, N, nu', tn') p q o o' → LQ Pk D (w, t', al, m, N, nu', tn') lo hi2 (l1, cl1, e2 - s1, g1, s1, e2) f2 fT2 (some b2) (i_ n2) none (dd + d2) → AFT lo hi nx w t nu tn t' nu' tn' → PS gc (fun Q => B Q (i_ n2) t') Φ) (hes : s1 ≤ e1 ∧ e1 ≤ s2 := by omega) (hbd : bd1 ≤ e2 - s1 ∧ bd2 ≤ e2 - s1 := by omega) :
    PS gc (fun Q => zw E' L' kt_M368 [.ref (w_adr E'.2.1 12 0), .int nl, .int (i_ n2)] t (wk1 (fun v w1 => wle t w1 → B Q v w1) (X Q))) Φ := by
  have hnl : bl = none → nl = -1 := by
    intro e
    rcases h with h | ⟨b, n, d1, d2, ⟨e1, -⟩, -⟩
    · exact h.2.1.2
    · rw [e] at e1
      cases e1
  rcases h.link H hP hX hbb hhi hlo2 hfw hb0 hlo hk hf2 hes hbd with ⟨h1, h2, h3⟩ | ⟨n, nu', tn', ⟨h1, h1b, h1c, h1d, h1e⟩, h2, h3, h4⟩
  · rw [hnl h1]
    refine PS_r1 (fun Q hq => t_chain0 (by omega) hq) (k t nu tn lo (Nat.le_refl _) H (by rw [h3, Nat.zero_add]; exact h2) ⟨⟨⟨fun _ _ => ⟨rfl, rfl⟩, fun _ _ _ _ => rfl, rfl⟩, fun _ _ h => h⟩, ⟨fun _ h => h, fun _ h => .inl h⟩, fun _ _ h => absurd rfl h, frm.rf⟩)
  · subst h1
    exact PS_r1 (fun Q hq => t_chain (by omega) h1d H.1.tl.2.2.2.2.2.2.1 hq) (k _ nu' tn' n h1b h2 h3 h4)
theorem AFT.owt {ft : Nat → Int32} {n0 : Nat} {t' : wS} {nu' : pNz} {tn' : Nat → Prop} (h : AFT lo hi n w t nu tn t' nu' tn') (hO : OWt (w, t, al, m, N, nu, tn) n0 ft) (hn : n0 < lo) (hln : lo ≤ n) : OWt (w, t', al, m, N, nu', tn') n0 ft := ⟨⟨hO.1.1, fun e => by
  rcases h.2.1.2 n0 e with h1 | h1
  · exact hO.1.2 h1
  · omega⟩, fun k hk => by
  have := hO.2 k hk
  show w_a t' 12 0 k n0 = ft k
  by_cases e : w_a t' 12 0 k n0 = w_a t 12 0 k n0
  · rw [e]
    exact this
  · have := h.2.2.1 k n0 e
    omega⟩
end LQS
