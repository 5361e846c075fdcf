/-! ===== ROUNDS, part 15: declared names ===== -/
/-- a symbol of MeetingHouse that is no symbol of the twin yet -/
def FRA (D : pD) (S : nS) (A : Nat) : Prop := (A ∈ S.al.take S.am ∧ ∃ z : Nat, w_i S.w 5 0 4 = i_ z ∧ z < S.am) ∧ (∀ s, S.ys s ≠ some A) ∧ w_l S.w D.1.2.1 15 A
def nS.sy (S : nS) (w2 : wS) (al' : List Nat) : nS := (w2, S.t, (al', S.am + 1), S.2.2.2)
section DCL
variable {D : pD} {V : pV} {nu : pN} {tn : Nat → Prop} {rt p q n r d j k s u A cr : Nat} {J : List Nat} {S S0 : nS} {w2 w' t' : wS} {x1 v : Option Nat} {x2 x3 x : Int32} {T T' : Int} {rs : kx_Rs} {al' : List Nat} {kr : List Nat}
theorem HM.sy1 (h : HM D V nu tn rt p J cr S0 S T T') (hc : 2 ≤ cr) (hb : SO2 D.1 S.w S.al S.am x1 x2 x3 rs w2) (hle : wle S.w w2) : ∃ A al', rs = .inl (some (va_rf (some A))) ∧ HM D V nu tn rt p J (cr - 2) S0 (S.sy w2 al') T T' ∧ sdr w2 A x1 x2 x3 ∧ FRA D (S.sy w2 al') A ∧ NX nu S (S.sy w2 al') ∧ (w_p w2 5 0 3 = w_p S.w 5 0 3 ∧ w_i w2 5 0 4 = w_i S.w 5 0 4) ∧ (∀ a k, w_i w2 14 a k = w_i S.w 14 a k ∧ w_p w2 14 a k = w_p S.w 14 a k) ∧ (∀ b ∈ S.vs, SMN nu S (S.sy w2 al') b) ∧ (∀ A' ∈ S.al.take S.am, (A' ≠ A ∧ A' ∈ al'.take (S.am + 1)) ∧ (∀ k, w_i w2 15 A' k = w_i S.w 15 A' k ∧ w_p w2 15 A' k = w_p S.w 15 A' k) ∧ (w_l S.w D.1.2.1 15 A' → w_l w2 D.1.2.1 15 A')) := by
  obtain ⟨A, al', e, hpre, hSS, hget, hnot, hsd, hold, hfx, hz, -, -, -⟩ := hb
  obtain ⟨⟨⟨a1, a2⟩, ⟨a3, a4⟩, ⟨⟨b1, b2⟩, ⟨b3, b4⟩, b5, b6⟩, ⟨c1, c2, c3⟩, d1, ⟨⟨e1, e2⟩, e3⟩, ⟨f1, f2⟩, g1⟩, ⟨⟨i1, i2⟩, i3, i4, i5, i6, i7, ⟨i8, i9⟩, i10⟩, j1, ⟨⟨k1, k2⟩, ⟨k3, k4⟩, k5, k6⟩, l1, l2, l3⟩ := h
  have hsub : ∀ a ∈ S.al.take S.am, a ∈ al'.take (S.am + 1) := fun a ha => take_pre hpre (Nat.le_succ _) a3.1.2.1 ha
  have hAm : A ∈ al'.take (S.am + 1) := by
    have hlen : S.am < al'.length := by have := hSS.1.2.1; omega
    rw [← hget, List.getD_eq_getElem?_getD, List.getElem?_eq_getElem hlen]
    exact List.mem_take_iff_getElem.mpr ⟨S.am, by omega, rfl⟩
  have hne : ∀ s A', S.ys s = some A' → A' ≠ A := fun s A' hs e => hnot (by rw [← e]; exact (c1 s A' hs).1.2)
  have h15 : ∀ s A', S.ys s = some A' → ∀ k, w_i w2 15 A' k = w_i S.w 15 A' k ∧ w_p w2 15 A' k = w_p S.w 15 A' k := fun s A' hs k => hold A' k (hne s A' hs) (a3.2.2.2.2.1 A' (List.mem_of_mem_take (c1 s A' hs).1.2)).2
  have h14 : ∀ a k, w_i w2 14 a k = w_i S.w 14 a k ∧ w_p w2 14 a k = w_p S.w 14 a k := fun a k => ⟨(hfx 14 k rfl a).1.1, (hfx 14 k rfl a).1.2.2⟩
  have h5 : w_p w2 5 0 3 = w_p S.w 5 0 3 ∧ w_i w2 5 0 4 = w_i S.w 5 0 4 := ⟨(hfx 5 3 rfl 0).1.2.2, (hfx 5 4 rfl 0).1.1⟩
  have h2 : w_i w2 2 0 1 = w_i S.w 2 0 1 ∧ w_i w2 2 0 2 = w_i S.w 2 0 2 := ⟨(hfx 2 1 rfl 0).1.1, (hfx 2 2 rfl 0).1.1⟩
  have hFN : FN S.w w2 := ⟨hfx.Nm, hle, hz⟩
  have hI : IVN D V nu tn rt (S.sy w2 al') := by
    refine ⟨⟨fun a ha => ?_, a2⟩, ⟨hSS, ?_⟩, ⟨⟨b1, b2⟩, ⟨b3, b4⟩, b5, b6⟩, ⟨fun s A' hs => ⟨⟨(c1 s A' hs).1.1, hsub A' (c1 s A' hs).1.2⟩, (c1 s A' hs).2.cg (fun k => (h15 s A' hs k).1) (fun k _ => (h15 s A' hs k).2) (fun _ _ => rfl) (fun _ _ _ => rfl) (fun _ _ h => h) (w_l_le (c1 s A' hs).2.1.2 hle)⟩, c2, (c3.cg (fun s A' hs => (h15 s A' hs 3).1) h5.2 (fun _ _ _ => rfl)).ama (Nat.le_succ _)⟩, d1, ⟨⟨?_, e2⟩, e3⟩, ⟨?_, f2⟩, g1⟩
    · obtain ⟨q1, q2, q3, q4⟩ := a1 a ha
      exact ⟨w_l_le q1 hle, fun k hk => (h14 a k).2.trans (q2 k hk), fun k hk => (h14 a k).1.trans (q3 k hk), q4.imp id (fun q4 => (h14 a 10).1.trans q4)⟩
    · show S.am + 1 ≤ 2 + 2 * S.vs.length
      omega
    · show CHN w2 S.ys S.kc (w_p w2 5 0 3)
      rw [h5.1]
      exact e1.cg (fun s A' hs => (h15 s A' hs 4).2)
    · show fkk (w_i w2 2 0 1)
      rw [h2.1]
      exact f1
  have hsm : ∀ b, SMN nu S (S.sy w2 al') b := fun b => ⟨⟨(h14 b 16).2, (h14 b 10).1⟩, fun _ _ _ _ _ _ => rfl⟩
  have hSM : SMS S (S.sy w2 al') := ⟨fun s A' hs => ⟨hs, fun k => ⟨(h15 s A' hs k).1, fun _ => (h15 s A' hs k).2⟩⟩, fun _ _ _ _ => rfl, Nat.le_refl _, fun _ h => .inl h, ⟨Nat.le_refl _, fun _ _ => ⟨rfl, fun _ => rfl⟩⟩, fun _ h => h⟩
  have hfc : fcc w2 = fcc S.w := by unfold fcc; rw [h2.1, h2.2]
  refine ⟨A, al', e, ⟨hI, ⟨⟨i1.tr hFN, i2⟩, i3.tr hSM i10, fun b hb => ⟨(i4 b hb).1.tr (hsm b), (i4 b hb).2⟩, i5, i6, i7, ⟨Nat.le_succ_of_le i8, fun a ha => hsub a (i9 a ha)⟩, i10⟩, j1, ⟨⟨?_, k2⟩, ⟨?_, k4⟩, ?_, k6⟩, l1, ?_, l3⟩, hsd, ⟨⟨hAm, by obtain ⟨⟨z, z1, z2, -⟩, -⟩ := c3; exact ⟨z, h5.2.trans z1, Nat.lt_succ_of_le z2⟩⟩, fun s hs => hne s A hs rfl, (hSS.2.2.2.2.1 A (List.mem_of_mem_take hAm)).1⟩, ⟨hSM, fun b hb => ⟨hb, hsm b⟩, fun _ _ h => h⟩, h5, h14, fun b _ => hsm b, fun A' hA' => ⟨⟨fun e => hnot (by rw [← e]; exact hA'), hsub A' hA'⟩, fun k => (hold A' k (fun e => hnot (by rw [← e]; exact hA')) (a3.2.2.2.2.1 A' (List.mem_of_mem_take hA')).2), fun h => w_l_le h hle⟩⟩
  · show S.sn + S0.vs.length + (cr - 2) % 2 ≤ S0.sn + S.vs.length
    omega
  · show S.am + 1 + 2 * S0.vs.length + (cr - 2) / 2 ≤ S0.am + 2 * S.vs.length
    omega
  · show S.un + S0.vs.length + (cr - 2) % 2 ≤ S0.un + S.vs.length
    omega
  · show fcc w2 = _
    rw [hfc]
    exact l2
theorem TRCn.o (h : TRCn D V nu S.w) (ho : w_o w' = w_o S.w) (hi : ∀ a k, w_i w' 14 a k = w_i S.w 14 a k) (hp : ∀ a k, k ≠ 16 → w_p w' 14 a k = w_p S.w 14 a k) : TRCn D V nu w' := fun a ha => by
  obtain ⟨h1, h2, h3, h4⟩ := h a ha
  refine ⟨?_, fun k hk => (hp a k hk).trans (h2 k hk), fun k hk => (hi a k).trans (h3 k hk), h4.imp id (fun h4 => (hi a 10).trans h4)⟩
  unfold w_l at h1 ⊢
  rw [ho]
  exact h1
/-- writes into it -/
theorem HM.i15 (h : HM D V nu tn rt p J cr S0 S T T') (hA : FRA D S A) : HM D V nu tn rt p J cr S0 (S.wt (ws_i S.w 15 A k x) S.t) T T' ∧ FRA D (S.wt (ws_i S.w 15 A k x) S.t) A := by
  have hf := h.1.2.2.2.2.2.2.1
  have hne : ∀ s A', S.ys s = some A' → A' ≠ A := fun s A' hs e => hA.2.1 s (by rw [← e]; exact hs)
  have h15 : ∀ s A', S.ys s = some A' → ∀ k', w_i (ws_i S.w 15 A k x) 15 A' k' = w_i S.w 15 A' k' ∧ w_p (ws_i S.w 15 A k x) 15 A' k' = w_p S.w 15 A' k' := fun s A' hs k' => ⟨by rw [Rii, if_neg (fun z => hne s A' hs z.2.2)], rfl⟩
  have h14 : ∀ a k', w_i (ws_i S.w 15 A k x) 14 a k' = w_i S.w 14 a k' := fun a k' => by rw [Rii, if_neg (fun z => absurd z.2.1 (by decide))]
  refine ⟨HM.nof (HM.wt (w' := ws_i S.w 15 A k x) (t' := S.t) h (h.1.cw h15 ⟨by rw [Rii, if_neg (fun z => absurd z.2.1 (by decide))], rfl⟩ rfl (h.1.2.1.1.i (by decide)) (by rw [Rii, if_neg (fun z => absurd z.2.1 (by decide))]; exact hf.1) (h.1.1.1.o rfl h14 (fun _ _ _ => rfl))) ⟨FN_i rfl, frm.rf⟩ h15 (fun _ _ => rfl) (fun b hb => ⟨⟨rfl, h14 b 10⟩, fun _ _ _ _ _ _ => rfl⟩) ⟨.inl rfl, .inl rfl⟩ ?_ (fct_nof hf.2)) h.2.2.2.2.1, ⟨hA.1.1, by obtain ⟨z, e1, e2⟩ := hA.1.2; exact ⟨z, by show w_i (ws_i S.w 15 A k x) 5 0 4 = _; rw [Rii, if_neg (fun z => absurd z.2.1 (by decide))]; exact e1, e2⟩⟩, hA.2.1, hA.2.2⟩
  have e1 : fcc (ws_i S.w 15 A k x) = fcc S.w := by
    unfold fcc
    rw [Rii, if_neg (fun z => absurd z.2.1 (by decide)), Rii, if_neg (fun z => absurd z.2.1 (by decide))]
  rw [e1]
  exact fcc_nof hf.1
theorem HM.p15 (h : HM D V nu tn rt p J cr S0 S T T') (hA : FRA D S A) : HM D V nu tn rt p J cr S0 (S.wt (ws_p S.w 15 A k v) S.t) T T' ∧ FRA D (S.wt (ws_p S.w 15 A k v) S.t) A := by
  have hf := h.1.2.2.2.2.2.2.1
  have hne : ∀ s A', S.ys s = some A' → A' ≠ A := fun s A' hs e => hA.2.1 s (by rw [← e]; exact hs)
  have h15 : ∀ s A', S.ys s = some A' → ∀ k', w_i (ws_p S.w 15 A k v) 15 A' k' = w_i S.w 15 A' k' ∧ w_p (ws_p S.w 15 A k v) 15 A' k' = w_p S.w 15 A' k' := fun s A' hs k' => ⟨rfl, by rw [Rpp, if_neg (fun z => hne s A' hs z.2.2)]⟩
  have h14 : ∀ a k', w_p (ws_p S.w 15 A k v) 14 a k' = w_p S.w 14 a k' := fun a k' => by rw [Rpp, if_neg (fun z => absurd z.2.1 (by decide))]
  exact ⟨HM.nof (HM.wt (w' := ws_p S.w 15 A k v) (t' := S.t) h (h.1.cw h15 ⟨rfl, by rw [Rpp, if_neg (fun z => absurd z.2.1 (by decide))]⟩ rfl h.1.2.1.1.p hf.1 (h.1.1.1.o rfl (fun _ _ => rfl) (fun a k _ => h14 a k))) ⟨FN_p rfl, frm.rf⟩ h15 (fun _ _ => rfl) (fun b hb => ⟨⟨h14 b 16, rfl⟩, fun _ _ _ _ _ _ => rfl⟩) ⟨.inl rfl, .inl rfl⟩ (fcc_nof hf.1) (fct_nof hf.2)) h.2.2.2.2.1, hA.1, hA.2.1, hA.2.2⟩
end DCL
