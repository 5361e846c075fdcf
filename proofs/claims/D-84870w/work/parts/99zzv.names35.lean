/-! ===== ROUNDS, part 37: units ===== -/
def tnu (t : wS) (un u : Nat) : wS := ws_i (ws_a (ws_a t 12 0 60 un (i_ u)) 12 0 61 un 0) 12 0 59 (i_ (un + 1 : Nat))
def tnv (t : wS) (un u : Nat) : wS := ws_i (tnu t un u) 12 0 62 (i_ un)
/-- a new unit, gone into -/
def nS.nu (S : nS) (t' : wS) : nS := (S.1, t', S.2.2.1, S.2.2.2.1, S.2.2.2.2.1, (S.un, S.un + 1, S.ck), S.2.2.2.2.2.2)
/-- another unit -/
def nS.su (S : nS) (t' : wS) (u : Nat) : nS := (S.1, t', S.2.2.1, S.2.2.2.1, S.2.2.2.2.1, (u, S.un, S.ck), S.2.2.2.2.2.2)
/-- a place where something began -/
def nS.cp (S : nS) (q : Nat × Int) : nS := (S.1, S.2.1, S.2.2.1, S.2.2.2.1, S.2.2.2.2.1, (S.u, S.un, q :: S.ck), S.2.2.2.2.2.2)
section NUN
variable {D : pD} {V : pV} {nu : pN} {tn : Nat → Prop} {rt p q n m r d j k s u un y A c cr crq : Nat} {J J' Jq : List Nat} {S S' S0 S1 : nS} {w w2 w' t t' : wS} {v : Option Nat} {x x1 x2 : Int32} {T T' T1 : Int} {kr ks : List Nat} {L L' : Nat} {E' : zE} {Q : kx_Rs → wS → Prop}
theorem i_inc {a : Nat} : (i_ a : Int32) + 1 = i_ (a + 1 : Nat) := by
  rw [i_1, i_add]
  congr 1
/-- the twin makes a unit -/
theorem t_newUnit (hI : IVN D V nu tn rt S) (hun : S.un < 6100) (hL : 40 ≤ L') (hq : Q (.inl (some (.int (i_ S.un)))) (tnu S.t S.un S.u)) : zw E' L' kt_M492 [.ref (w_adr E'.2.1 12 0)] S.t Q := by
  have h59 := hI.2.2.1.2.1.1
  have h62 := hI.2.2.1.2.2.1
  have hT := hI.1.2.1
  refine zt_X13_newUnit_p0 (by omega) ?_
  have e : (i_ (S.un + 1 : Nat) : Int32) - 1 = i_ S.un := by
    rw [show (1 : Int32) = i_ 1 from rfl, i_sub]
    congr 1
    omega
  simp only [zb_X13_newUnit_p0, h59, h62, i_nat' (show S.un < 2147483648 by omega), i_inc, e]
  exact ⟨hT.sy rfl hun, hT.sy rfl hun, hq⟩
theorem tnv_a (h60 : k = 60 ∨ k = 61 → j ≠ un) : w_a (tnv t un u) 12 0 k j = w_a t 12 0 k j := by
  unfold tnv tnu
  rw [Rai, Rai, Raa, if_neg (fun z => h60 (.inr z.1) z.2.2.2), Raa, if_neg (fun z => h60 (.inl z.1) z.2.2.2)]
theorem tnv_un : w_a (tnv t un u) 12 0 60 un = i_ u ∧ w_a (tnv t un u) 12 0 61 un = 0 := by
  unfold tnv tnu
  constructor
  · rw [Rai, Rai, Raa, if_neg (fun z => absurd z.1 (by decide)), Raa, if_pos ⟨rfl, rfl, rfl, rfl⟩]
  · rw [Rai, Rai, Raa, if_pos ⟨rfl, rfl, rfl, rfl⟩]
theorem tnv_i (h : k ≠ 59 ∧ k ≠ 62) : w_i (tnv t un u) 12 0 k = w_i t 12 0 k := by
  unfold tnv tnu
  rw [Rii, if_neg (fun z => h.2 z.1), Rii, if_neg (fun z => h.1 z.1)]
  rfl
theorem tnv_59 : w_i (tnv t un u) 12 0 59 = i_ (un + 1 : Nat) ∧ w_i (tnv t un u) 12 0 62 = i_ un := by
  unfold tnv tnu
  constructor
  · rw [Rii, if_neg (fun z => absurd z.1 (by decide)), Rii, if_pos ⟨rfl, rfl, rfl⟩]
  · rw [Rii, if_pos ⟨rfl, rfl, rfl⟩]
theorem tnv_fr : FTn t (tnv t un u) := (((frm_a (by decide)).tr (frm_a (by decide))).tr (frm_i (by decide))).tr (frm_i (by decide))
theorem IVN.nun (hI : IVN D V nu tn rt S) (hst : STR D V nu tn rt) (hun : S.un ≤ S.vs.length) : IVN D V nu tn rt (S.nu (tnv S.t S.un S.u)) := by
  obtain ⟨⟨a1, a2⟩, a3, ⟨⟨b1, b2⟩, ⟨b3, b4⟩, b5, b6⟩, ⟨c1, c2, c3⟩, ⟨⟨d0, d1⟩, d2, d3, d4⟩, ⟨e1, e2, e3, e4, e5⟩, ⟨f1, f2⟩, g1⟩ := hI
  have hvl := hst.2.2.2.2.2.2 S.vs g1.1.1 (fun a ha => (g1.1.2 a ha).1)
  have ka : ∀ k j, (k ≠ 60 ∧ k ≠ 61) → w_a (tnv S.t S.un S.u) 12 0 k j = w_a S.t 12 0 k j := fun k j hk => tnv_a (fun z => by omega)
  have kl : ∀ s, lyk (tnv S.t S.un S.u) s = lyk S.t s := fun s => by
    unfold lyk
    rw [ka 46 s (by decide), ka 48 s (by decide)]
  refine ⟨⟨a1, ⟨a2.1, fun n hn k hk => ?_⟩⟩, a3, ⟨⟨(tnv_i (by decide)).trans b1, b2⟩, ⟨tnv_59.1, ?_⟩, tnv_59.2, Nat.lt_succ_self _⟩, ⟨fun s A hs => ⟨(c1 s A hs).1, (c1 s A hs).2.cg (fun _ => rfl) (fun _ _ => rfl) (fun k hk => ka k s (by omega)) (fun sp P _ => ka 46 sp (by decide)) (fun _ _ h => h) (c1 s A hs).2.1.2⟩, c2, c3.cg (fun _ _ _ => rfl) rfl (fun s _ _ => ka 46 s (by decide))⟩, ⟨⟨?_, fun x hx hx2 => ?_⟩, fun x hx => ?_, fun s hs => ?_, fun s s' h1 h2 h3 l l' h4 h5 h6 h7 => ?_⟩, ⟨e1, (tnv_i (by decide)).trans e2, e3.cg2 (fun j _ => ka 57 j (by decide)), e4, fun s hs => ?_⟩, ⟨f1, ?_⟩, g1⟩
  · have hk60 : k ≠ 60 ∧ k ≠ 61 := by
      refine ⟨fun e => ?_, fun e => ?_⟩ <;> rw [e] at hk <;> cases hk
    exact (ka k n hk60).trans (a2.2 n hn k hk)
  · show S.un + 1 ≤ 1 + S.vs.length
    omega
  · exact (tnv_a (fun _ => by omega)).trans d0
  · by_cases e : x = S.un
    · exact ⟨S.u, by omega, by rw [e]; exact tnv_un.1⟩
    · have hx2 : x < S.un + 1 := hx2
      obtain ⟨y, h1, h2⟩ := d1 x hx (by omega)
      exact ⟨y, h1, (tnv_a (fun _ => e)).trans h2⟩
  · by_cases e : x = S.un
    · refine ⟨0, by omega, by rw [e]; exact tnv_un.2, fun s hs h51 => ?_⟩
      exfalso
      obtain ⟨x', h1, h2⟩ := d3 s hs
      have h51 : w_a (tnv S.t S.un S.u) 12 0 51 s = i_ x := h51
      rw [ka 51 s (by decide), h2, e] at h51
      have := (i_eq (by omega) (by omega)).mp h51
      omega
    · have hx : x < S.un + 1 := hx
      obtain ⟨z, h1, h2, h3⟩ := d2 x (by omega)
      refine ⟨z, h1, (tnv_a (fun _ => e)).trans h2, fun s hs h51 => ?_⟩
      obtain ⟨l, g1, g2⟩ := h3 s hs ((ka 51 s (by decide)).symm.trans h51)
      exact ⟨l, (ka 52 s (by decide)).trans g1, by show l + lyk (tnv S.t S.un S.u) s ≤ z; rw [kl]; exact g2⟩
  · obtain ⟨x', h1, h2⟩ := d3 s hs
    exact ⟨x', by show x' < S.un + 1; omega, (ka 51 s (by decide)).trans h2⟩
  · show l + lyk (tnv S.t S.un S.u) s ≤ l'
    rw [kl]
    exact d4 s s' h1 h2 ((ka 51 s (by decide)).symm.trans (h3.trans (ka 51 s' (by decide)))) l l' h4 h5 ((ka 52 s (by decide)).symm.trans h6) ((ka 52 s' (by decide)).symm.trans h7)
  · obtain ⟨q1, q2, x, k, q3, q4⟩ := e5 s hs
    exact ⟨q1, q2, x, k + 1, (ka 51 s (by decide)).trans q3, S.u, ⟨b6, tnv_un.1⟩, uch.lt (m := S.un) (fun y hy => tnv_a (fun _ => by omega)) b6 q4⟩
  · show fkk (w_i (tnv S.t S.un S.u) 12 0 64)
    rw [tnv_i (by decide)]
    exact f2
theorem HM.nun (h : HM D V nu tn rt p J cr S0 S T T') (hst : STR D V nu tn rt) (hcr : cr % 2 = 1) : HM D V nu tn rt p J (cr - 1) S0 (S.nu (tnv S.t S.un S.u)) T T' ∧ NX nu S (S.nu (tnv S.t S.un S.u)) ∧ ∀ b, SMN nu S (S.nu (tnv S.t S.un S.u)) b := by
  obtain ⟨hI, ⟨⟨i1, i2⟩, i3, i4, i5, i6, i7, i8, i9⟩, j1, ⟨⟨k1, k2⟩, ⟨k3, k4⟩, k5, k6⟩, l1, l2, l3⟩ := h
  have hsm : ∀ b, SMN nu S (S.nu (tnv S.t S.un S.u)) b := fun b => ⟨⟨rfl, rfl⟩, fun n r d e k hk => tnv_a (fun z => by omega)⟩
  have hSM : SMS S (S.nu (tnv S.t S.un S.u)) := ⟨fun s A hs => ⟨hs, fun _ => ⟨rfl, fun _ => rfl⟩⟩, fun s hs k hk => tnv_a (fun z => by omega), Nat.le_refl _, fun _ h => .inl h, ⟨Nat.le_succ _, fun x hx => ⟨tnv_a (fun _ => by omega), fun _ => tnv_a (fun _ => by omega)⟩⟩, fun _ h => h⟩
  have hle : S0.un ≤ S.un := i3.2.2.2.2.1.1
  have hft : fct (tnv S.t S.un S.u) = fct S.t := by
    unfold fct
    rw [tnv_i (by decide), tnv_i (by decide)]
  refine ⟨⟨hI.nun hst (by omega), ⟨⟨i1, i2.tr tnv_fr⟩, i3.tr hSM i9, fun b hb => ⟨(i4 b hb).1.tr (hsm b), (i4 b hb).2⟩, i5, i6, i7, i8, .inr hle⟩, j1, ⟨⟨?_, k2⟩, ⟨?_, k4⟩, ?_, k6⟩, l1, l2, ?_⟩, ⟨hSM, fun b hb => ⟨hb, hsm b⟩, fun _ _ h => h⟩, hsm⟩
  · show S.sn + S0.vs.length + (cr - 1) % 2 ≤ S0.sn + S.vs.length
    omega
  · show S.am + 2 * S0.vs.length + (cr - 1) / 2 ≤ S0.am + 2 * S.vs.length
    omega
  · show S.un + 1 + S0.vs.length + (cr - 1) % 2 ≤ S0.un + S.vs.length
    omega
  · show fct (tnv S.t S.un S.u) = _
    rw [hft]
    exact l3
/-- the unit of a node that was not gone to -/
theorem HM.t63 (h : HM D V nu tn rt p J cr S0 S T T') (hs : INJ nu) (hq : q ∉ S.vs) (hnu : nu q = some (n, r, d)) (hn : n < 14000) : HM D V nu tn rt p J cr S0 (S.wt S.w (ws_a S.t 12 0 63 n x)) T T' ∧ NX nu S (S.wt S.w (ws_a S.t 12 0 63 n x)) ∧ ∀ b ∈ S.vs, SMN nu S (S.wt S.w (ws_a S.t 12 0 63 n x)) b := by
  have hf := h.1.2.2.2.2.2.2.1
  have ha : ∀ k', tl61 k' = true → w_a (ws_a S.t 12 0 63 n x) 12 0 k' = w_a S.t 12 0 k' := fun k' h1 => by
    funext y
    rw [Raa, if_neg (fun z => by rw [z.1] at h1; cases h1)]
  have hsm : ∀ b ∈ S.vs, SMN nu S (S.wt S.w (ws_a S.t 12 0 63 n x)) b := fun b hb => ⟨⟨rfl, rfl⟩, fun n' r' d' e k hk' => by
    show w_a (ws_a S.t 12 0 63 n x) 12 0 k n' = _
    rw [Raa, if_neg (fun z => ?_)]
    have e2 : n' = n := z.2.2.2
    subst e2
    have := hs _ _ _ _ _ _ _ e hnu (by omega)
    subst this
    exact hq hb⟩
  exact ⟨HM.nof (HM.wt (w' := S.w) (t' := ws_a S.t 12 0 63 n x) h (h.1.tw ha (fun _ _ => rfl) hf.2 (h.1.1.2.a rfl)) ⟨FN.rf, FTn_a rfl⟩ (fun _ a _ k => ⟨rfl, rfl⟩) ha (fun b hb => hsm b (h.2.1.2.2.2.1 b hb)) ⟨.inl rfl, .inl rfl⟩ (fcc_nof hf.1) (fct_nof hf.2)) h.2.2.2.2.1, NX.wt (w' := S.w) (t' := ws_a S.t 12 0 63 n x) (fun _ _ _ k => ⟨rfl, rfl⟩) ha (fun b hb => hsm b (h.1.2.2.2.2.2.2.2.2.2.2 b hb)), hsm⟩
theorem SMN.all (hs : ∀ b, (w_p S'.w 14 b 16 = w_p S.w 14 b 16 ∧ w_i S'.w 14 b 10 = w_i S.w 14 b 10)) (ht : ∀ k n, (k = 31 ∨ k = 63 ∨ k = 66 ∨ k = 67) → w_a S'.t 12 0 k n = w_a S.t 12 0 k n) : ∀ b, SMN nu S S' b := fun b => ⟨hs b, fun _ _ _ _ k hk => ht k _ hk⟩
/-- back into the unit around -/
theorem HM.su (h : HM D V nu tn rt p J cr S0 S T T') (hlt : S0.u < S.un) (hk : ∀ s ∈ S.kt, ∃ x k : Nat, w_a S.t 12 0 51 s = i_ x ∧ uch S.t k S0.u x) : HM D V nu tn rt p J cr S0 (S.su (ws_i S.t 12 0 62 (i_ S0.u)) S0.u) T T' ∧ NX nu S (S.su (ws_i S.t 12 0 62 (i_ S0.u)) S0.u) ∧ ∀ b, SMN nu S (S.su (ws_i S.t 12 0 62 (i_ S0.u)) S0.u) b := by
  obtain ⟨⟨⟨a1, a2⟩, a3, ⟨⟨b1, b2⟩, ⟨b3, b4⟩, b5, b6⟩, ⟨c1, c2, c3⟩, d1, ⟨e1, e2, e3, e4, e5⟩, ⟨f1, f2⟩, g1⟩, ⟨⟨i1, i2⟩, i3, i4, i5, i6, i7, i8, i9⟩, j1, k1, l1, l2, l3⟩ := h
  have hi : ∀ k', k' ≠ 62 → w_i (ws_i S.t 12 0 62 (i_ S0.u)) 12 0 k' = w_i S.t 12 0 k' := fun k' hk' => by rw [Rii, if_neg (fun z => hk' z.1)]
  have hsm : ∀ b, SMN nu S (S.su (ws_i S.t 12 0 62 (i_ S0.u)) S0.u) b := fun b => ⟨⟨rfl, rfl⟩, fun _ _ _ _ _ _ => rfl⟩
  have hSM : SMS S (S.su (ws_i S.t 12 0 62 (i_ S0.u)) S0.u) := ⟨fun s A hs => ⟨hs, fun k => ⟨rfl, fun _ => rfl⟩⟩, fun _ _ _ _ => rfl, Nat.le_refl _, fun _ h => .inl h, ⟨Nat.le_refl _, fun _ _ => ⟨rfl, fun _ => rfl⟩⟩, fun _ h => h⟩
  refine ⟨⟨⟨⟨a1, a2⟩, a3, ⟨⟨(hi 44 (by decide)).trans b1, b2⟩, ⟨(hi 59 (by decide)).trans b3, b4⟩, ?_, hlt⟩, ⟨fun s A hs => ⟨(c1 s A hs).1, (c1 s A hs).2.cg (fun _ => rfl) (fun _ _ => rfl) (fun _ _ => rfl) (fun _ _ _ => rfl) (fun _ _ h => h) (c1 s A hs).2.1.2⟩, c2, c3.cg (fun _ _ _ => rfl) rfl (fun _ _ _ => rfl)⟩, d1, ⟨e1, (hi 56 (by decide)).trans e2, KNr.cg (t := S.t) (t' := ws_i S.t 12 0 62 (i_ S0.u)) rfl e3, e4, fun s hs => ?_⟩, ⟨f1, ?_⟩, g1⟩, ⟨⟨i1, i2.tr (frm_i (by decide))⟩, i3.tr hSM i9, fun b hb => ⟨(i4 b hb).1.tr (hsm b), (i4 b hb).2⟩, i5, i6, i7, i8, .inl rfl⟩, j1, k1, l1, l2, ?_⟩, ⟨hSM, fun b hb => ⟨hb, hsm b⟩, fun _ _ h => h⟩, hsm⟩
  · show w_i (ws_i S.t 12 0 62 (i_ S0.u)) 12 0 62 = i_ S0.u
    rw [Rii, if_pos ⟨rfl, rfl, rfl⟩]
  · obtain ⟨x, k', q3, q4⟩ := hk s hs
    exact ⟨(e5 s hs).1, (e5 s hs).2.1, x, k', q3, uch.cg (t := S.t) (t' := ws_i S.t 12 0 62 (i_ S0.u)) rfl q4⟩
  · show fkk (w_i (ws_i S.t 12 0 62 (i_ S0.u)) 12 0 64)
    rw [hi 64 (by decide)]
    exact f2
  · show fct (ws_i S.t 12 0 62 (i_ S0.u)) = _
    have : fct (ws_i S.t 12 0 62 (i_ S0.u)) = fct S.t := by
      unfold fct
      rw [hi 64 (by decide), hi 65 (by decide)]
    rw [this]
    exact l3
/-- what was known in a unit is known there still -/
theorem IVN.ku (hI : IVN D V nu tn rt S) (hk : KRE S kr) (hx : SMW S S') : ∀ s ∈ kr, ∃ x k : Nat, w_a S'.t 12 0 51 s = i_ x ∧ uch S'.t k S.u x := fun s hs => by
  obtain ⟨q1, q2, x, k, q3, q4⟩ := hI.2.2.2.2.2.1.2.2.2.2 s (by rw [hk.2]; exact hs)
  refine ⟨x, k, (hx.2.1 s q1 51 (by decide)).trans q3, uch.lt (m := S.un) (fun y hy => (hx.2.2.2.2.1.2 y hy).1) hI.2.2.1.2.2.2 q4⟩
/-- a place is remembered -/
theorem HM.cp (h : HM D V nu tn rt p J cr S0 S T T') : ∃ z : Nat, w_i S.w 5 0 4 = i_ z ∧ HM D V nu tn rt p J cr S0 (S.cp (S.sn, (z : Int))) T T' ∧ NX nu S (S.cp (S.sn, (z : Int))) ∧ ∀ b, SMN nu S (S.cp (S.sn, (z : Int))) b := by
  obtain ⟨⟨a0, a3, b0, ⟨c1, c2, ⟨z, c3, c4, c5, c6⟩, c7, c8⟩, d1, e0, f0, g1⟩, ⟨i1, i3, i4, i5, i6, i7, i8, i9⟩, j1, k1, l1, l2, l3⟩ := h
  have hsm : ∀ b, SMN nu S (S.cp (S.sn, (z : Int))) b := fun b => ⟨⟨rfl, rfl⟩, fun _ _ _ _ _ _ => rfl⟩
  have hSM : SMS S (S.cp (S.sn, (z : Int))) := ⟨fun s A hs => ⟨hs, fun k => ⟨rfl, fun _ => rfl⟩⟩, fun _ _ _ _ => rfl, Nat.le_refl _, fun _ h => .inl h, ⟨Nat.le_refl _, fun _ _ => ⟨rfl, fun _ => rfl⟩⟩, fun _ h => List.mem_cons_of_mem _ h⟩
  refine ⟨z, c3, ⟨⟨a0, a3, b0, ⟨c1, c2, ⟨z, c3, c4, c5, fun q hq => ?_⟩, c7, fun q hq s A hs hr => ?_⟩, d1, e0, f0, g1⟩, ⟨i1, i3.tr hSM i9, fun b hb => ⟨(i4 b hb).1.tr (hsm b), (i4 b hb).2⟩, i5, i6, i7, i8, i9⟩, j1, k1, l1, l2, l3⟩, ⟨hSM, fun b hb => ⟨hb, hsm b⟩, fun _ _ h => h⟩, hsm⟩
  · rcases List.mem_cons.mp hq with e | e
    · rw [e]
      exact ⟨Nat.le_refl _, Int.le_refl _⟩
    · exact c6 q e
  · rcases List.mem_cons.mp hq with e | e
    · rw [e]
      have h1 := (c1 s A hs).1.1
      have h2 := (c5 s A hs hr).2
      exact ⟨fun _ => h2, fun _ => h1⟩
    · exact c8 q e s A hs hr
end NUN
