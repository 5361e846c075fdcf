/-! ===== ROUNDS, part 20: what is told of processes, actions, declarations ===== -/
def OP (V : pV) (p j : Nat) (P : Nat → Prop) : Prop := ∀ q, V.2.1 p j = some q → P q
def EL (V : pV) (p j : Nat) (P : Nat → Prop) : Prop := ∀ i q, nxi V i (V.2.1 p j) = some q → P q
/-- a channel's KIND is a PROTOCOL with tags (the twin) -/
def tgs (V : pV) (S : nS) (s : Nat) : Prop := ∃ sp nd : Nat, w_a S.t 12 0 47 s = i_ (16 + sp : Nat) ∧ sp < 6100 ∧ w_a S.t 12 0 49 sp = i_ nd ∧ nd < 14000 ∧ V.2.2.1 26 nd = i_ (36 : Nat)
/-- a branch of a PAR: a unit of its own -/
def UOF (nu : pN) (S : nS) (u q x : Nat) : Prop := x < S.un ∧ w_a S.t 12 0 60 x = i_ u ∧ ∃ m r d, nu q = some (m, r, d) ∧ w_a S.t 12 0 63 m = i_ x
/-- in a row, with what is known behind each -/
def LCH (V : pV) (R : List Nat → Nat → List Nat → Prop) : List (Nat × List Nat) → Option Nat → List Nat → List Nat → Prop
  | [], x, kr, kr' => x = none ∧ kr' = kr
  | z :: L, x, kr, kr' => x = some z.1 ∧ R kr z.1 z.2 ∧ LCH V R L (V.2.1 z.1 7) z.2 kr'
/-- a name that is declared -/
def DNM (nu : pN) (S : nS) (u c : Nat) (kr : List Nat) (q : Nat) (kr' : List Nat) : Prop := S.dn q ∧ ∃ m r d s : Nat, nu q = some (m, r, d) ∧ kr' = s :: kr ∧ SYM S q m s ∧ w_a S.t 12 0 46 s = i_ c ∧ w_a S.t 12 0 51 s = i_ u
/-- by kinds: P unit, known, node, known behind it; N known, what a name may be, node -/
def NSk (V : pV) (nu : pN) (S : nS) (P : Nat → List Nat → Nat → List Nat → Prop) (N : List Nat → (Nat → Prop) → Nat → Prop) (u : Nat) (kr : List Nat) (p : Nat) (kr' : List Nat) (n : Nat) : Nat → Prop
  | 1 => kr' = kr ∧ ∃ (L : List (Nat × List Nat)) (krm : List Nat), LCH V (P u) L (V.2.1 p 3) kr krm ∧ OP V p 4 (fun q => P u krm q krm)
  | 2 => kr' = kr
  | 3 => kr' = kr
  | 4 => kr' = kr ∧ EL V p 3 (N kr (fun c => c = 1)) ∧ EL V p 4 (N kr Cv)
  | 5 => kr' = kr ∧ OP V p 3 (N kr (fun c => c = 3 ∨ (c = 4 ∧ nxi V 1 (V.2.1 p 4) = none))) ∧ EL V p 4 (N kr (fun c => c = 1))
  | 6 => kr' = kr ∧ OP V p 3 (N kr (fun c => c = 4)) ∧ OP V p 4 (N kr Cv)
  | 7 => kr' = kr ∧ OP V p 3 (N kr (fun c => c = 3)) ∧ EL V p 4 (fun q => P u kr q kr)
  | 18 => kr' = kr ∧ OP V p 5 (N kr Cv) ∧ ((V.1 p 10 = 1 → OP V p 3 (N kr (fun c => c = 3 ∨ (c = 4 ∧ nxi V 1 (V.2.1 p 4) = none))) ∧ EL V p 4 (N kr (fun c => c = 1))) ∧ (V.1 p 10 = 2 → OP V p 3 (N kr (fun c => c = 4)) ∧ OP V p 4 (N kr Cv)) ∧ (V.1 p 10 = 3 → OP V p 3 (N kr (fun c => c = 3)) ∧ EL V p 4 (fun q => P u kr q kr))) ∧ OP V p 6 (fun q => P u kr q kr)
  | 19 => kr' = kr ∧ USE S kr p n (fun c => c = 6) ∧ EL V p 4 (N kr (fun c => c = 1)) ∧ OP V p 6 (fun q => P u kr q kr)
  | 8 => kr' = kr ∧ ∃ q3 q4 m3 r3 d3 s3 A3, V.2.1 p 3 = some q3 ∧ V.2.1 p 4 = some q4 ∧ (nu q3 = some (m3, r3, d3) ∧ w_a S.t 12 0 31 m3 = i_ (s3 : Nat) ∧ S.ys s3 = some A3) ∧ N kr (fun c => c = 3) q3 ∧ ((EL V p 4 (N kr Cv) ∧ ¬ (tgs V S s3 ∧ V.2.1 q4 3 = none ∧ V.1 q4 12 = 0 ∧ ∃ m4 r4 d4, nu q4 = some (m4, r4, d4) ∧ V.2.2.1 26 m4 = i_ (60 : Nat))) ∨ (tgs V S s3 ∧ (V.2.1 q4 3 = none ∧ V.1 q4 12 = 0) ∧ S.dn q4 ∧ (∃ m4 r4 d4, nu q4 = some (m4, r4, d4) ∧ V.2.2.1 26 m4 = i_ (60 : Nat) ∧ USE S kr q4 m4 (fun c => c = 6)) ∧ ∀ i q, nxi V i (V.2.1 q4 7) = some q → N kr Cv q))
  | 9 => kr' = kr ∧ USE S kr p n (fun c => c = 7) ∧ EL V p 4 (fun q => N kr (Ca V q) q)
  | 10 => kr' = kr ∧ ∃ k2, ((V.2.1 p 3 = none ∧ k2 = kr) ∨ ∃ q, V.2.1 p 3 = some q ∧ P u kr q k2) ∧ EL V p 4 (fun q => P u k2 q k2)
  | 17 => kr' = kr ∧ ∃ k2, ((V.2.1 p 3 = none ∧ k2 = kr) ∨ ∃ q, V.2.1 p 3 = some q ∧ P u kr q k2) ∧ EL V p 4 (fun q => P u k2 q k2)
  | 11 => kr' = kr ∧ (∃ a z : Nat, (a, (z : Int)) ∈ S.ck ∧ w_a S.t 12 0 66 n = i_ a ∧ w_i S.w 14 p 10 = i_ z) ∧ ((V.2.1 p 3 = none ∧ EL V p 4 (fun q => ∃ x, UOF nu S u q x ∧ P x kr q kr)) ∨ ∃ q x k2, V.2.1 p 3 = some q ∧ P x kr q k2 ∧ EL V p 4 (fun q' => UOF nu S u q' x ∧ P x k2 q' k2))
  | 12 => kr' = kr ∧ EL V p 4 (fun q => P u kr q kr)
  | 13 => kr' = kr ∧ OP V p 3 (N kr Cv) ∧ OP V p 4 (fun q => P u kr q kr)
  | 14 => kr' = kr ∧ OP V p 3 (N kr Cv) ∧ EL V p 4 (fun q => P u kr q kr)
  | 15 => kr' = kr ∧ EL V p 3 (N kr Cv) ∧ OP V p 4 (fun q => P u kr q kr)
  | 16 => kr' = kr ∧ OP V p 3 (N kr Cv) ∧ OP V p 4 (fun q => P u kr q kr)
  | 20 => OP V p 3 (N kr Cv) ∧ OP V p 4 (N kr Cv) ∧ ∃ s, kr' = s :: kr ∧ SYM S p n s ∧ w_a S.t 12 0 46 s = i_ (9 : Nat)
  | 30 => OP V p 3 (N kr Cv) ∧ ∃ L, LCH V (DNM nu S u 1) L (V.2.1 p 4) kr kr'
  | 31 => OP V p 3 (N kr Cv) ∧ ∃ L, LCH V (DNM nu S u 3) L (V.2.1 p 4) kr kr'
  | 32 => OP V p 3 (N kr Cv) ∧ ∃ L, LCH V (DNM nu S u 4) L (V.2.1 p 4) kr kr'
  | 33 => OP V p 3 (N kr Cv) ∧ DNM nu S u 2 kr p kr'
  | 34 => ∃ c, (c = 1 ∨ c = 3) ∧ OP V p 3 (N kr (fun c' => c' = c)) ∧ DNM nu S u c kr p kr'
  | 35 => EL V p 4 (fun q => OP V q 3 (N kr Cv)) ∧ DNM nu S u 5 kr p kr'
  | 36 => EL V p 4 (fun q => EL V q 4 (fun q' => OP V q' 3 (N kr Cv))) ∧ ∃ k1 L, DNM nu S u 5 kr p k1 ∧ LCH V (DNM nu S u 6) L (V.2.1 p 4) k1 kr'
  | 37 => ∃ x L kf, (UOF nu S u p x ∧ ∃ a z : Nat, (a, (z : Int)) ∈ S.ck ∧ w_a S.t 12 0 67 n = i_ a ∧ w_i S.w 14 p 10 = i_ z) ∧ LCH V (fun kr q kr' => ∃ c, DNM nu S x c kr q kr') L (V.2.1 p 3) kr kf ∧ OP V p 4 (fun q => P x kf q kf) ∧ DNM nu S u 7 kr p kr'
  | 38 => ∃ x L kf, (UOF nu S u p x ∧ ∃ a z : Nat, (a, (z : Int)) ∈ S.ck ∧ w_a S.t 12 0 67 n = i_ a ∧ w_i S.w 14 p 10 = i_ z) ∧ LCH V (fun kr q kr' => ∃ c, DNM nu S x c kr q kr') L (V.2.1 p 3) kr kf ∧ ((V.1 p 11 = 1 ∧ OP V p 4 (N kf Cv)) ∨ (V.1 p 11 = 0 ∧ ∃ L2 kg, LCH V (P x) L2 (V.2.1 p 5) kf kg ∧ OP V p 4 (fun q => P x kg q kg) ∧ OP V p 6 (N kg Cv))) ∧ DNM nu S u 8 kr p kr'
  | _ => False
def NS (V : pV) (nu : pN) (S : nS) : Nat → Nat → List Nat → Nat → List Nat → Prop
  | 0, _, _, _, _ => False
  | f + 1, u, kr, p, kr' => S.dn p ∧ ∃ n r d kd : Nat, nu p = some (n, r, d) ∧ n < 14000 ∧ V.2.2.1 26 n = i_ kd ∧ NSk V nu S (NS V nu S f) (fun kr C q => NE V nu S kr f C q) u kr p kr' n kd
section NSS
variable {D : pD} {V : pV} {nu : pN} {tn : Nat → Prop} {rt p q n r d j k k0 f s u A cr W kd : Nat} {J J' : List Nat} {S S' S0 : nS} {w w2 w' t t' : wS} {v : Option Nat} {x : Int32} {T T' : Int} {kr kr' : List Nat} {L L' Lx Lt : Nat} {E' : zE} {gc gt : pQ} {Φ : kx_Rs → wS → kx_Rs → wS → Prop} {ol : Option Int32} {C : Nat → Prop}
theorem OP.imp {P Q : Nat → Prop} (h : OP V p j P) (hPQ : ∀ q, P q → Q q) : OP V p j Q := fun q hq => hPQ q (h q hq)
theorem EL.imp {P Q : Nat → Prop} (h : EL V p j P) (hPQ : ∀ q, P q → Q q) : EL V p j Q := fun i q hq => hPQ q (h i q hq)
theorem tgs.nxw (hI : IVN D V nu tn rt S) (hx : NXw nu S S') (hs : S.ys s = some A) : tgs V S' s ↔ tgs V S s := by
  have ht := hx.1.2.1
  have hsl := hI.sl hs
  obtain ⟨-, -, c, -, -, -, -, hT, -, -⟩ := (hI.2.2.2.1.1 s A hs).2
  have e47 := ht s hsl 47 (by decide)
  have key : ∀ sp : Nat, sp < 6100 → w_a S.t 12 0 47 s = i_ (16 + sp : Nat) → sp < S.sn := fun sp h1 h2 => by
    have bad : ∀ z : Int, -2 < z → z < 16 → w_a S.t 12 0 47 s ≠ i_ z := fun z a b e => by
      have := (i_eq (by omega) (by omega)).mp (h2.symm.trans e)
      omega
    have good : RPR S.w S.t S.ys s A → sp < S.sn := fun ⟨sp', P, g1, g2, g3, g4, g5⟩ => by
      have := (i_eq (by omega) (by omega)).mp (h2.symm.trans g3)
      have e : sp = sp' := by omega
      rw [e]
      exact hI.sl g2
    rcases hT with ⟨-, y, hy, -, -, e⟩ | ⟨-, -, ⟨-, e⟩ | hR⟩ | ⟨-, -, -, e⟩ | ⟨-, -, e⟩ | ⟨-, hR⟩
    · exact absurd e (bad y (by omega) (by omega))
    · exact absurd e (bad (-1) (by omega) (by omega))
    · exact good hR
    · exact absurd e (bad 0 (by omega) (by omega))
    · exact absurd e (bad (-1) (by omega) (by omega))
    · exact good hR
  constructor
  · rintro ⟨sp, nd, a1, a2, a3, a4, a5⟩
    rw [e47] at a1
    exact ⟨sp, nd, a1, a2, (ht sp (key sp a2 a1) 49 (by decide)).symm.trans a3, a4, a5⟩
  · rintro ⟨sp, nd, a1, a2, a3, a4, a5⟩
    exact ⟨sp, nd, e47.trans a1, a2, (ht sp (key sp a2 a1) 49 (by decide)).trans a3, a4, a5⟩
theorem LCH.imp {R R' : List Nat → Nat → List Nat → Prop} (hR : ∀ kr q kr', R kr q kr' → R' kr q kr') : ∀ {L : List (Nat × List Nat)} {x : Option Nat} {kr kr' : List Nat}, LCH V R L x kr kr' → LCH V R' L x kr kr'
  | [], _, _, _, h => h
  | z :: L, _, _, _, h => ⟨h.1, hR _ _ _ h.2.1, LCH.imp hR h.2.2⟩
theorem DNM.nxw {c : Nat} (hI : IVN D V nu tn rt S) (hx : NXw nu S S') (h : DNM nu S u c kr q kr') : DNM nu S' u c kr q kr' := by
  obtain ⟨h0, m, r, d, s, h1, h2, ⟨A, h3, h4, h5⟩, h6, h7⟩ := h
  obtain ⟨g1, g2⟩ := hx.2.1 q h0
  have hsl := hI.sl h3
  exact ⟨g1, m, r, d, s, h1, h2, ⟨A, (hx.1.1 s A h3).1, by rw [g2.1.1]; exact h4, by rw [g2.2 m r d h1 31 (.inl rfl)]; exact h5⟩, (hx.1.2.1 s hsl 46 (by decide)).trans h6, (hx.1.2.1 s hsl 51 (by decide)).trans h7⟩
theorem UOF.nxw (hx : NXw nu S S') (hd : S.dn q) {x : Nat} (h : UOF nu S u q x) : UOF nu S' u q x := by
  obtain ⟨h1, h2, m, r, d, h3, h4⟩ := h
  obtain ⟨-, -, -, -, ⟨g1, g2⟩, -⟩ := hx.1
  exact ⟨by omega, (g2 x h1).1.trans h2, m, r, d, h3, ((hx.2.1 q hd).2.2 m r d h3 63 (.inr (.inl rfl))).trans h4⟩
theorem NSk.nxw {P P' : Nat → List Nat → Nat → List Nat → Prop} {N N' : List Nat → (Nat → Prop) → Nat → Prop} (hP : ∀ u kr p kr', P u kr p kr' → P' u kr p kr') (hN : ∀ kr C q, N kr C q → N' kr C q) (hNd : ∀ kr C q, N kr C q → S.dn q) (hPd : ∀ u kr p kr', P u kr p kr' → S.dn p) (hI : IVN D V nu tn rt S) (hx : NXw nu S S') (hd : S.dn p) (hp : nu p = some (n, r, d)) (h : NSk V nu S P N u kr p kr' n kd) : NSk V nu S' P' N' u kr p kr' n kd := by
  have ht : ∀ s, s < S.sn → ∀ k, (45 ≤ k ∧ k ≤ 55) → w_a S'.t 12 0 k s = w_a S.t 12 0 k s := hx.1.2.1
  unfold NSk at h ⊢
  split at h
  · obtain ⟨h1, L, krm, h2, h3⟩ := h
    exact ⟨h1, L, krm, h2.imp (fun _ _ _ => hP _ _ _ _), h3.imp (fun q => hP _ _ _ _)⟩
  · exact h
  · exact h
  · exact ⟨h.1, h.2.1.imp (fun q => hN _ _ _), h.2.2.imp (fun q => hN _ _ _)⟩
  · exact ⟨h.1, h.2.1.imp (fun q => hN _ _ _), h.2.2.imp (fun q => hN _ _ _)⟩
  · exact ⟨h.1, h.2.1.imp (fun q => hN _ _ _), h.2.2.imp (fun q => hN _ _ _)⟩
  · exact ⟨h.1, h.2.1.imp (fun q => hN _ _ _), h.2.2.imp (fun q => hP _ _ _ _)⟩
  · obtain ⟨h1, h2, ⟨h3, h4, h5⟩, h6⟩ := h
    exact ⟨h1, h2.imp (fun q => hN _ _ _), ⟨fun e => ⟨(h3 e).1.imp (fun q => hN _ _ _), (h3 e).2.imp (fun q => hN _ _ _)⟩, fun e => ⟨(h4 e).1.imp (fun q => hN _ _ _), (h4 e).2.imp (fun q => hN _ _ _)⟩, fun e => ⟨(h5 e).1.imp (fun q => hN _ _ _), (h5 e).2.imp (fun q => hP _ _ _ _)⟩⟩, h6.imp (fun q => hP _ _ _ _)⟩
  · exact ⟨h.1, h.2.1.nxw hI hp hd hx, h.2.2.1.imp (fun q => hN _ _ _), h.2.2.2.imp (fun q => hP _ _ _ _)⟩
  · obtain ⟨h1, q3, q4, m3, r3, d3, s3, A3, h2, h3, ⟨h4, h5, h6⟩, h7, h8⟩ := h
    have hd3 := hNd _ _ _ h7
    have et := tgs.nxw hI hx h6
    refine ⟨h1, q3, q4, m3, r3, d3, s3, A3, h2, h3, ⟨h4, ?_, (hx.1.1 s3 A3 h6).1⟩, hN _ _ _ h7, h8.imp (fun ⟨a, b⟩ => ⟨a.imp (fun q => hN _ _ _), fun z => b ⟨et.mp z.1, z.2⟩⟩) (fun ⟨a, b, c, ⟨m4, r4, d4, e1, e2, e3⟩, e⟩ => ⟨et.mpr a, b, (hx.2.1 q4 c).1, ⟨m4, r4, d4, e1, e2, e3.nxw hI e1 c hx⟩, fun i q hq => hN _ _ _ (e i q hq)⟩)⟩
    rw [(hx.2.1 q3 hd3).2.2 m3 r3 d3 h4 31 (.inl rfl)]
    exact h5
  · exact ⟨h.1, h.2.1.nxw hI hp hd hx, h.2.2.imp (fun q => hN _ _ _)⟩
  · obtain ⟨h1, k2, h2, h3⟩ := h
    exact ⟨h1, k2, h2.imp id (fun ⟨q, a, b⟩ => ⟨q, a, hP _ _ _ _ b⟩), h3.imp (fun q => hP _ _ _ _)⟩
  · obtain ⟨h1, k2, h2, h3⟩ := h
    exact ⟨h1, k2, h2.imp id (fun ⟨q, a, b⟩ => ⟨q, a, hP _ _ _ _ b⟩), h3.imp (fun q => hP _ _ _ _)⟩
  · obtain ⟨h1, ⟨a, z, h2, h3, h4⟩, h5⟩ := h
    obtain ⟨g1, g2⟩ := hx.2.1 p hd
    refine ⟨h1, ⟨a, z, hx.1.2.2.2.2.2 _ h2, (g2.2 n r d hp 66 (.inr (.inr (.inl rfl)))).trans h3, g2.1.2.trans h4⟩, h5.imp (fun ⟨a, b⟩ => ⟨a, b.imp (fun q ⟨x, c, e⟩ => ⟨x, c.nxw hx (hPd _ _ _ _ e), hP _ _ _ _ e⟩)⟩) (fun ⟨q, x, k2, a, b, c⟩ => ⟨q, x, k2, a, hP _ _ _ _ b, c.imp (fun q ⟨c, e⟩ => ⟨c.nxw hx (hPd _ _ _ _ e), hP _ _ _ _ e⟩)⟩)⟩
  · exact ⟨h.1, h.2.imp (fun q => hP _ _ _ _)⟩
  · exact ⟨h.1, h.2.1.imp (fun q => hN _ _ _), h.2.2.imp (fun q => hP _ _ _ _)⟩
  · exact ⟨h.1, h.2.1.imp (fun q => hN _ _ _), h.2.2.imp (fun q => hP _ _ _ _)⟩
  · exact ⟨h.1, h.2.1.imp (fun q => hN _ _ _), h.2.2.imp (fun q => hP _ _ _ _)⟩
  · exact ⟨h.1, h.2.1.imp (fun q => hN _ _ _), h.2.2.imp (fun q => hP _ _ _ _)⟩
  · obtain ⟨h1, h2, s, h3, ⟨A, h4, h5, h6⟩, h7⟩ := h
    obtain ⟨g1, g2⟩ := hx.2.1 p hd
    exact ⟨h1.imp (fun q => hN _ _ _), h2.imp (fun q => hN _ _ _), s, h3, ⟨A, (hx.1.1 s A h4).1, by rw [g2.1.1]; exact h5, by rw [g2.2 n r d hp 31 (.inl rfl)]; exact h6⟩, by rw [ht s (hI.sl h4) 46 (by decide)]; exact h7⟩
  · exact ⟨h.1.imp (fun q => hN _ _ _), h.2.imp (fun L hL => hL.imp (fun _ _ _ h => h.nxw hI hx))⟩
  · exact ⟨h.1.imp (fun q => hN _ _ _), h.2.imp (fun L hL => hL.imp (fun _ _ _ h => h.nxw hI hx))⟩
  · exact ⟨h.1.imp (fun q => hN _ _ _), h.2.imp (fun L hL => hL.imp (fun _ _ _ h => h.nxw hI hx))⟩
  · exact ⟨h.1.imp (fun q => hN _ _ _), h.2.nxw hI hx⟩
  · obtain ⟨c, h1, h2, h3⟩ := h
    exact ⟨c, h1, h2.imp (fun q => hN _ _ _), h3.nxw hI hx⟩
  · exact ⟨h.1.imp (fun q h => h.imp (fun q => hN _ _ _)), h.2.nxw hI hx⟩
  · obtain ⟨h1, k1, L, h2, h3⟩ := h
    exact ⟨h1.imp (fun q h => h.imp (fun q h => h.imp (fun q => hN _ _ _))), k1, L, h2.nxw hI hx, h3.imp (fun _ _ _ h => h.nxw hI hx)⟩
  · obtain ⟨x, L, kf, ⟨h1, a, z, h2, h3, h4⟩, h5, h6, h7⟩ := h
    obtain ⟨g1, g2⟩ := hx.2.1 p hd
    exact ⟨x, L, kf, ⟨h1.nxw hx hd, a, z, hx.1.2.2.2.2.2 _ h2, (g2.2 n r d hp 67 (.inr (.inr (.inr rfl)))).trans h3, g2.1.2.trans h4⟩, h5.imp (fun _ _ _ ⟨c, h⟩ => ⟨c, h.nxw hI hx⟩), h6.imp (fun q => hP _ _ _ _), h7.nxw hI hx⟩
  · obtain ⟨x, L, kf, ⟨h1, a, z, h2, h3, h4⟩, h5, h6, h7⟩ := h
    obtain ⟨g1, g2⟩ := hx.2.1 p hd
    exact ⟨x, L, kf, ⟨h1.nxw hx hd, a, z, hx.1.2.2.2.2.2 _ h2, (g2.2 n r d hp 67 (.inr (.inr (.inr rfl)))).trans h3, g2.1.2.trans h4⟩, h5.imp (fun _ _ _ ⟨c, h⟩ => ⟨c, h.nxw hI hx⟩), h6.imp (fun ⟨a, b⟩ => ⟨a, b.imp (fun q => hN _ _ _)⟩) (fun ⟨a, L2, kg, b, c, e⟩ => ⟨a, L2, kg, b.imp (fun _ _ _ => hP _ _ _ _), c.imp (fun q => hP _ _ _ _), e.imp (fun q => hN _ _ _)⟩), h7.nxw hI hx⟩
  · exact h
theorem NE.dn {f : Nat} (h : NE V nu S kr f C q) : S.dn q := by
  cases f with
  | zero => exact h.elim
  | succ f => exact h.1
theorem NS.dn {f : Nat} (h : NS V nu S f u kr q kr') : S.dn q := by
  cases f with
  | zero => exact h.elim
  | succ f => exact h.1
theorem NS.nxw (hI : IVN D V nu tn rt S) (hx : NXw nu S S') : ∀ {f u : Nat} {kr : List Nat} {p : Nat} {kr' : List Nat}, NS V nu S f u kr p kr' → NS V nu S' f u kr p kr'
  | 0, _, _, _, _, h => h.elim
  | f + 1, u, kr, p, kr', h => by
    obtain ⟨h0, n, r, d, kd, h1, h2, h3, h4⟩ := h
    exact ⟨(hx.2.1 p h0).1, n, r, d, kd, h1, h2, h3, NSk.nxw (fun u kr p kr' h => NS.nxw hI hx h) (fun kr C q h => h.nxw hI hx) (fun kr C q h => h.dn) (fun u kr p kr' h => h.dn) hI hx h0 h1 h4⟩
theorem tgs.nx (hI : IVN D V nu tn rt S) (hx : NX nu S S') (hs : S.ys s = some A) : tgs V S' s ↔ tgs V S s := tgs.nxw hI hx.w hs
theorem DNM.nx {c : Nat} (hI : IVN D V nu tn rt S) (hx : NX nu S S') (h : DNM nu S u c kr q kr') : DNM nu S' u c kr q kr' := DNM.nxw hI hx.w h
theorem UOF.nx (hx : NX nu S S') (hd : S.dn q) {x : Nat} (h : UOF nu S u q x) : UOF nu S' u q x := UOF.nxw hx.w hd h
theorem NS.nx (hI : IVN D V nu tn rt S) (hx : NX nu S S') {f u : Nat} {kr : List Nat} {p : Nat} {kr' : List Nat} (h : NS V nu S f u kr p kr') : NS V nu S' f u kr p kr' := NS.nxw hI hx.w h
end NSS
