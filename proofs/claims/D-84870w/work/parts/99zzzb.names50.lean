/-! ===== ROUNDS, part 52: PROC and FUNCTION: what they need ===== -/
section RTN
variable {D : pD} {V : pV} {nu : pN} {tn : Nat → Prop} {rt p q n nq m r d dq j k k' k0 f s s0 sP u un y A A0 P c cr crq kd W i : Nat} {J J' Jq : List Nat} {S S' S0 S1 : nS} {w w2 w' t t' : wS} {v2 pr : Option Nat} {x x1 x2 x3 x5 x6 x7 z y9 l' ty v ln : Int32} {T T' T1 T2 : Int} {kr ks : List Nat} {L L' Lc Ls Lk Lx Lt : Nat} {E E' : zE} {ol : Option Int32} {Q : kx_Rs → wS → Prop} {gc gt : pQ} {Φ : kx_Rs → wS → kx_Rs → wS → Prop} {C : Nat → Prop} {o : Bool}
/-- a node's own unit, beside its symbol -/
theorem HM.nu2 (h : HM D V nu tn rt p J cr S0 S T T') (hst : STR D V nu tn rt) (hcr : cr % 2 = 0) (hun : S.un + S0.vs.length + 1 ≤ S0.un + S.vs.length) : HM D V nu tn rt p J cr S0 (S.nu (tnv S.t S.un S.u)) T T' ∧ NX nu S (S.nu (tnv S.t S.un S.u)) ∧ ∀ b, SMN nu S (S.nu (tnv S.t S.un S.u)) b := by
  obtain ⟨hI, ⟨⟨i1, i2⟩, i3, i4, i5, i6, i7, i8, i9⟩, j1, ⟨⟨k1, k2⟩, ⟨k3, k4⟩, k5, k6⟩, l1, l2, l3⟩ := h
  have hsm : ∀ b, SMN nu S (S.nu (tnv S.t S.un S.u)) b := fun b => ⟨⟨rfl, rfl⟩, fun n r d e k hk => tnv_a (fun z => by omega)⟩
  have hSM : SMS S (S.nu (tnv S.t S.un S.u)) := ⟨fun s A hs => ⟨hs, fun _ => ⟨rfl, fun _ => rfl⟩⟩, fun s hs k hk => tnv_a (fun z => by omega), Nat.le_refl _, fun _ h => .inl h, ⟨Nat.le_succ _, fun x hx => ⟨tnv_a (fun _ => by omega), fun _ => tnv_a (fun _ => by omega)⟩⟩, fun _ h => h⟩
  have hle : S0.un ≤ S.un := i3.2.2.2.2.1.1
  have hft : fct (tnv S.t S.un S.u) = fct S.t := by
    unfold fct
    rw [tnv_i (by decide), tnv_i (by decide)]
  refine ⟨⟨hI.nun hst (by omega), ⟨⟨i1, i2.tr tnv_fr⟩, i3.tr hSM i9, fun b hb => ⟨(i4 b hb).1.tr (hsm b), (i4 b hb).2⟩, i5, i6, i7, i8, .inr hle⟩, j1, ⟨⟨k1, k2⟩, ⟨k3, k4⟩, ?_, k6⟩, l1, l2, ?_⟩, ⟨hSM, fun b hb => ⟨hb, hsm b⟩, fun _ _ h => h⟩, hsm⟩
  · show S.un + 1 + S0.vs.length + cr % 2 ≤ S0.un + S.vs.length
    omega
  · show fct (tnv S.t S.un S.u) = _
    rw [hft]
    exact l3
theorem rsq_lt : ∀ {m : Nat}, ∀ s' ∈ rsq s m, s' < s + m ∧ s ≤ s'
  | 0, s', h => absurd h List.not_mem_nil
  | m + 1, s', h => by
    rcases List.mem_cons.mp h with e | e
    · omega
    · have := rsq_lt (m := m) s' e
      omega
/-- formals become known in MeetingHouse -/
theorem n_lkl {KQ : (kx_Rs → wS → Prop) → kx_Rs → wS → Prop} {kp : Option Nat} {bg : Int32} (hs : STR D V nu tn rt) (hL : 100 ≤ L) (hkr : ∀ s ∈ kr, s < s0) :
    ∀ {l : List (Nat × Nat × Nat)} {S : nS} {a : Option Nat} {x : Int32} {i : Nat}, HM D V nu tn rt p J cr S0 S T T' → S.kc = rsq s0 i ++ kr → LPx V tn nu k0 ol l a x none (-1) → ITL V nu S C S.u (s0 + i) l →
      (∀ S' : nS, HM D V nu tn rt p J cr S0 S' T T' → S'.kc = rsq s0 (i + l.length) ++ kr → S'.kt = S.kt → S'.2.2.2.1 = S.2.2.2.1 → S'.2.2.2.2.2 = S.2.2.2.2.2 → S'.t = S.t → NX nu S S' → (∀ b, SMN nu S S' b) → PS (fun Q => zb_X6_routine_p184 D.1 L (KQ Q) (some p) kp bg none S'.w) gt Φ) →
      PS (fun Q => zL_X6_routine_p184 D.1 L (KQ Q) (some p) kp bg a S.w) gt Φ
  | [], S, a, x, i, H, hk, hl, hI, kk => by
    rw [hl.1]
    exact PS_l (fun Q h => zt_X6_routine_p184 (by omega) h) (kk S H hk rfl rfl rfl rfl NX.rf (fun _ => SMN.rf))
  | z :: l, S, a, x, i, H, hk, hl, hI, kk => by
    obtain ⟨h1, h2, h3, h4⟩ := hl
    obtain ⟨⟨r, b1⟩, ⟨A, a1, a2, a3⟩, b3, b4, b5, b6⟩ := hI.1
    have hw := H.1.nw b1
    obtain ⟨c, -, -, -, hlA, -⟩ := H.1.sy a1
    obtain ⟨H2, hx2, hsm2⟩ := H.lk a1 (by
      rw [hk]
      intro hm
      rcases List.mem_append.mp hm with e | e
      · have := rsq_lt (s0 + i) e
        omega
      · have := hkr (s0 + i) e
        omega)
    rw [h1]
    refine PS_l (fun Q h => zt_X6_routine_p184 (by omega) h) ?_
    unfold zb_X6_routine_p184
    refine PS_ln (by simp) (PS_lex z.2.1 rfl (PS_land hw.1 (PS_lex A a2 (PS_land hlA ?_))))
    rw [hw.2.1 7 (by decide), a2]
    refine n_lkl (S := S.lk (lkw S.w A) (s0 + i)) (i := i + 1) hs hL hkr H2 (by show (s0 + i) :: S.kc = _; rw [hk]; rfl) h4 (ITL.st hI.2 hx2.1.w (fun z' _ => hsm2 z'.2.1)) (fun S' H' k1 k2 k3 k4 k5 k6 k7 => ?_)
    exact kk S' H' (by rw [k1, show i + (z :: l).length = i + 1 + l.length by rw [List.length_cons]; omega]) k2 k3 k4 k5 (hx2.tr k6 (.inl rfl)) (fun b => (hsm2 b).tr (k7 b))
end RTN
