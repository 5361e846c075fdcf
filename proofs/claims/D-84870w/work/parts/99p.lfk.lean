/-! ===== PARSERS, part 16: what is told of a node, by what it holds (printed by gen_lf.py) ===== -/
section LFM
variable {S : pS} {D : pD} {T2 : Nat → Prop} {fi : Nat → Int32} {fp : Nat → Option Nat} {ft : Nat → Int32} {b n d rk s e : Nat} {g : Nat → Nat}
theorem LFz.k50 {cc : Bool} (hO : OWx cc S b fi fp) (hT : OWt S n ft) (h2 : fi 2 = ft 27) (h26 : ft 26 = i_ 50) (h : d = 0 ∧ (fp 0) = some (D.1.1.1 15) ∧ (fi 10) = (ft 28)) (hg : ft 27 = i_ (g s) := by first | rfl | assumption) (hz : fi 11 = 0 ∧ fi 21 = 0 := by first | exact ⟨rfl, rfl⟩ | assumption) : LFz D (vw S.1 S.2.1) S.2.2.2.2.2.2 T2 S.2.2.2.2.2.1 (rk, g, s, e) d b n := by
  have t28 : (vw S.1 S.2.1).2.2.1 28 n = ft 28 := hT.2 28 rfl
  have p0 : (vw S.1 S.2.1).2.1 b 0 = fp 0 := hO.2.2 0 rfl
  have i10 : (vw S.1 S.2.1).1 b 10 = fi 10 := hO.2.1 10 rfl
  refine ⟨⟨(hO.2.1 2 rfl).trans (h2.trans (hT.2 27 rfl).symm), (hT.2 27 rfl).trans hg⟩, 50, (hT.2 26 rfl).trans h26, by decide, fun _ => ⟨(hO.2.1 11 rfl).trans hz.1, (hO.2.1 21 rfl).trans hz.2⟩, ?_⟩
  show d = 0 ∧ (vw S.1 S.2.1).2.1 b 0 = some (D.1.1.1 15) ∧ (vw S.1 S.2.1).1 b 10 = (vw S.1 S.2.1).2.2.1 28 n
  rw [t28, p0, i10]
  exact h
theorem LFz.k51 {cc : Bool} (hO : OWx cc S b fi fp) (hT : OWt S n ft) (h2 : fi 2 = ft 27) (h26 : ft 26 = i_ 51) (h : d = 0 ∧ (fp 0) = some (D.1.1.1 17) ∧ (fi 10) = (ft 28) ∧ ∃ c : Nat, c < 128 ∧ (ft 28) = i_ c) (hg : ft 27 = i_ (g s) := by first | rfl | assumption) (hz : fi 11 = 0 ∧ fi 21 = 0 := by first | exact ⟨rfl, rfl⟩ | assumption) : LFz D (vw S.1 S.2.1) S.2.2.2.2.2.2 T2 S.2.2.2.2.2.1 (rk, g, s, e) d b n := by
  have t28 : (vw S.1 S.2.1).2.2.1 28 n = ft 28 := hT.2 28 rfl
  have p0 : (vw S.1 S.2.1).2.1 b 0 = fp 0 := hO.2.2 0 rfl
  have i10 : (vw S.1 S.2.1).1 b 10 = fi 10 := hO.2.1 10 rfl
  refine ⟨⟨(hO.2.1 2 rfl).trans (h2.trans (hT.2 27 rfl).symm), (hT.2 27 rfl).trans hg⟩, 51, (hT.2 26 rfl).trans h26, by decide, fun _ => ⟨(hO.2.1 11 rfl).trans hz.1, (hO.2.1 21 rfl).trans hz.2⟩, ?_⟩
  show d = 0 ∧ (vw S.1 S.2.1).2.1 b 0 = some (D.1.1.1 17) ∧ (vw S.1 S.2.1).1 b 10 = (vw S.1 S.2.1).2.2.1 28 n ∧ ∃ c : Nat, c < 128 ∧ (vw S.1 S.2.1).2.2.1 28 n = i_ c
  rw [t28, p0, i10]
  exact h
theorem LFz.k52 {cc : Bool} (hO : OWx cc S b fi fp) (hT : OWt S n ft) (h2 : fi 2 = ft 27) (h26 : ft 26 = i_ 52) (h : d = 0 ∧ (fp 0) = some (D.1.1.1 16) ∧ ∃ a q : Nat, (fi 10) = i_ a ∧ (ft 28) = i_ q ∧ q < D.2.2.2.1.length ∧ (fi 18) = i_ (D.2.2.2.1.getD q []).length ∧ (D.2.2.2.1.getD q []).length ≤ 60 ∧ a + (D.2.2.2.1.getD q []).length ≤ D.2.2.2.2 ∧ ∀ j, j < (D.2.2.2.1.getD q []).length → (vw S.1 S.2.1).2.2.2 (a + j) = i_ ((D.2.2.2.1.getD q []).getD j 0)) (hg : ft 27 = i_ (g s) := by first | rfl | assumption) (hz : fi 11 = 0 ∧ fi 21 = 0 := by first | exact ⟨rfl, rfl⟩ | assumption) : LFz D (vw S.1 S.2.1) S.2.2.2.2.2.2 T2 S.2.2.2.2.2.1 (rk, g, s, e) d b n := by
  have t28 : (vw S.1 S.2.1).2.2.1 28 n = ft 28 := hT.2 28 rfl
  have p0 : (vw S.1 S.2.1).2.1 b 0 = fp 0 := hO.2.2 0 rfl
  have i10 : (vw S.1 S.2.1).1 b 10 = fi 10 := hO.2.1 10 rfl
  have i18 : (vw S.1 S.2.1).1 b 18 = fi 18 := hO.2.1 18 rfl
  refine ⟨⟨(hO.2.1 2 rfl).trans (h2.trans (hT.2 27 rfl).symm), (hT.2 27 rfl).trans hg⟩, 52, (hT.2 26 rfl).trans h26, by decide, fun _ => ⟨(hO.2.1 11 rfl).trans hz.1, (hO.2.1 21 rfl).trans hz.2⟩, ?_⟩
  show d = 0 ∧ (vw S.1 S.2.1).2.1 b 0 = some (D.1.1.1 16) ∧ ∃ a q : Nat, (vw S.1 S.2.1).1 b 10 = i_ a ∧ (vw S.1 S.2.1).2.2.1 28 n = i_ q ∧ q < D.2.2.2.1.length ∧ (vw S.1 S.2.1).1 b 18 = i_ (D.2.2.2.1.getD q []).length ∧ (D.2.2.2.1.getD q []).length ≤ 60 ∧ a + (D.2.2.2.1.getD q []).length ≤ D.2.2.2.2 ∧ ∀ j, j < (D.2.2.2.1.getD q []).length → (vw S.1 S.2.1).2.2.2 (a + j) = i_ ((D.2.2.2.1.getD q []).getD j 0)
  rw [t28, p0, i10, i18]
  exact h
theorem LFz.k53 {cc : Bool} (hO : OWx cc S b fi fp) (hT : OWt S n ft) (h2 : fi 2 = ft 27) (h26 : ft 26 = i_ 53) (h : d = 0 ∧ (fp 0) = some (D.1.1.1 20) ∧ (fi 10) = 1) (hg : ft 27 = i_ (g s) := by first | rfl | assumption) (hz : fi 11 = 0 ∧ fi 21 = 0 := by first | exact ⟨rfl, rfl⟩ | assumption) : LFz D (vw S.1 S.2.1) S.2.2.2.2.2.2 T2 S.2.2.2.2.2.1 (rk, g, s, e) d b n := by
  have p0 : (vw S.1 S.2.1).2.1 b 0 = fp 0 := hO.2.2 0 rfl
  have i10 : (vw S.1 S.2.1).1 b 10 = fi 10 := hO.2.1 10 rfl
  refine ⟨⟨(hO.2.1 2 rfl).trans (h2.trans (hT.2 27 rfl).symm), (hT.2 27 rfl).trans hg⟩, 53, (hT.2 26 rfl).trans h26, by decide, fun _ => ⟨(hO.2.1 11 rfl).trans hz.1, (hO.2.1 21 rfl).trans hz.2⟩, ?_⟩
  show d = 0 ∧ (vw S.1 S.2.1).2.1 b 0 = some (D.1.1.1 20) ∧ (vw S.1 S.2.1).1 b 10 = 1
  rw [p0, i10]
  exact h
theorem LFz.k54 {cc : Bool} (hO : OWx cc S b fi fp) (hT : OWt S n ft) (h2 : fi 2 = ft 27) (h26 : ft 26 = i_ 54) (h : d = 0 ∧ (fp 0) = some (D.1.1.1 20) ∧ (fi 10) = 0) (hg : ft 27 = i_ (g s) := by first | rfl | assumption) (hz : fi 11 = 0 ∧ fi 21 = 0 := by first | exact ⟨rfl, rfl⟩ | assumption) : LFz D (vw S.1 S.2.1) S.2.2.2.2.2.2 T2 S.2.2.2.2.2.1 (rk, g, s, e) d b n := by
  have p0 : (vw S.1 S.2.1).2.1 b 0 = fp 0 := hO.2.2 0 rfl
  have i10 : (vw S.1 S.2.1).1 b 10 = fi 10 := hO.2.1 10 rfl
  refine ⟨⟨(hO.2.1 2 rfl).trans (h2.trans (hT.2 27 rfl).symm), (hT.2 27 rfl).trans hg⟩, 54, (hT.2 26 rfl).trans h26, by decide, fun _ => ⟨(hO.2.1 11 rfl).trans hz.1, (hO.2.1 21 rfl).trans hz.2⟩, ?_⟩
  show d = 0 ∧ (vw S.1 S.2.1).2.1 b 0 = some (D.1.1.1 20) ∧ (vw S.1 S.2.1).1 b 10 = 0
  rw [p0, i10]
  exact h
theorem LFz.k55 {cc : Bool} (hO : OWx cc S b fi fp) (hT : OWt S n ft) (h2 : fi 2 = ft 27) (h26 : ft 26 = i_ 55) (h : d = 0 ∧ (fp 0) = some (D.1.1.1 15) ∧ (fi 10) = 2147483647) (hg : ft 27 = i_ (g s) := by first | rfl | assumption) (hz : fi 11 = 0 ∧ fi 21 = 0 := by first | exact ⟨rfl, rfl⟩ | assumption) : LFz D (vw S.1 S.2.1) S.2.2.2.2.2.2 T2 S.2.2.2.2.2.1 (rk, g, s, e) d b n := by
  have p0 : (vw S.1 S.2.1).2.1 b 0 = fp 0 := hO.2.2 0 rfl
  have i10 : (vw S.1 S.2.1).1 b 10 = fi 10 := hO.2.1 10 rfl
  refine ⟨⟨(hO.2.1 2 rfl).trans (h2.trans (hT.2 27 rfl).symm), (hT.2 27 rfl).trans hg⟩, 55, (hT.2 26 rfl).trans h26, by decide, fun _ => ⟨(hO.2.1 11 rfl).trans hz.1, (hO.2.1 21 rfl).trans hz.2⟩, ?_⟩
  show d = 0 ∧ (vw S.1 S.2.1).2.1 b 0 = some (D.1.1.1 15) ∧ (vw S.1 S.2.1).1 b 10 = 2147483647
  rw [p0, i10]
  exact h
theorem LFz.k56 {cc : Bool} (hO : OWx cc S b fi fp) (hT : OWt S n ft) (h2 : fi 2 = ft 27) (h26 : ft 26 = i_ 56) (h : d = 0 ∧ (fp 0) = some (D.1.1.1 15) ∧ (fi 10) = -2147483648) (hg : ft 27 = i_ (g s) := by first | rfl | assumption) (hz : fi 11 = 0 ∧ fi 21 = 0 := by first | exact ⟨rfl, rfl⟩ | assumption) : LFz D (vw S.1 S.2.1) S.2.2.2.2.2.2 T2 S.2.2.2.2.2.1 (rk, g, s, e) d b n := by
  have p0 : (vw S.1 S.2.1).2.1 b 0 = fp 0 := hO.2.2 0 rfl
  have i10 : (vw S.1 S.2.1).1 b 10 = fi 10 := hO.2.1 10 rfl
  refine ⟨⟨(hO.2.1 2 rfl).trans (h2.trans (hT.2 27 rfl).symm), (hT.2 27 rfl).trans hg⟩, 56, (hT.2 26 rfl).trans h26, by decide, fun _ => ⟨(hO.2.1 11 rfl).trans hz.1, (hO.2.1 21 rfl).trans hz.2⟩, ?_⟩
  show d = 0 ∧ (vw S.1 S.2.1).2.1 b 0 = some (D.1.1.1 15) ∧ (vw S.1 S.2.1).1 b 10 = -2147483648
  rw [p0, i10]
  exact h
theorem LFz.k1 {cc : Bool} (hO : OWx cc S b fi fp) (hT : OWt S n ft) (h2 : fi 2 = ft 27) (h26 : ft 26 = i_ 1) (h : (fp 0) = some (D.1.1.1 9) ∧ ∃ d1 d2 e1, d = d1 + d2 ∧ (s ≤ e1 ∧ e1 ≤ e) ∧ SLz (vw S.1 S.2.1) S.2.2.2.2.2.2 S.2.2.2.2.2.1 rk (none, 3, rk, g, s, e1) d1 ((fp 3)) ((ft 28)) ∧ ECz (vw S.1 S.2.1) S.2.2.2.2.2.2 S.2.2.2.2.2.1 rk (none, 2, rk, g, e1, e) d2 ((fp 4)) ((ft 29))) (hg : ft 27 = i_ (g s) := by first | rfl | assumption) : LFz D (vw S.1 S.2.1) S.2.2.2.2.2.2 T2 S.2.2.2.2.2.1 (rk, g, s, e) d b n := by
  have t28 : (vw S.1 S.2.1).2.2.1 28 n = ft 28 := hT.2 28 rfl
  have t29 : (vw S.1 S.2.1).2.2.1 29 n = ft 29 := hT.2 29 rfl
  have p0 : (vw S.1 S.2.1).2.1 b 0 = fp 0 := hO.2.2 0 rfl
  have p3 : (vw S.1 S.2.1).2.1 b 3 = fp 3 := hO.2.2 3 rfl
  have p4 : (vw S.1 S.2.1).2.1 b 4 = fp 4 := hO.2.2 4 rfl
  refine ⟨⟨(hO.2.1 2 rfl).trans (h2.trans (hT.2 27 rfl).symm), (hT.2 27 rfl).trans hg⟩, 1, (hT.2 26 rfl).trans h26, by decide, fun e => absurd e (by decide), ?_⟩
  show (vw S.1 S.2.1).2.1 b 0 = some (D.1.1.1 9) ∧ ∃ d1 d2 e1, d = d1 + d2 ∧ (s ≤ e1 ∧ e1 ≤ e) ∧ SLz (vw S.1 S.2.1) S.2.2.2.2.2.2 S.2.2.2.2.2.1 rk (none, 3, rk, g, s, e1) d1 ((vw S.1 S.2.1).2.1 b 3) ((vw S.1 S.2.1).2.2.1 28 n) ∧ ECz (vw S.1 S.2.1) S.2.2.2.2.2.2 S.2.2.2.2.2.1 rk (none, 2, rk, g, e1, e) d2 ((vw S.1 S.2.1).2.1 b 4) ((vw S.1 S.2.1).2.2.1 29 n)
  rw [t28, t29, p0, p3, p4]
  exact h
theorem LFz.k2 {cc : Bool} (hO : OWx cc S b fi fp) (hT : OWt S n ft) (h2 : fi 2 = ft 27) (h26 : ft 26 = i_ 2) (h : d = 0 ∧ (fp 0) = some (D.1.1.1 34)) (hg : ft 27 = i_ (g s) := by first | rfl | assumption) : LFz D (vw S.1 S.2.1) S.2.2.2.2.2.2 T2 S.2.2.2.2.2.1 (rk, g, s, e) d b n := by
  have p0 : (vw S.1 S.2.1).2.1 b 0 = fp 0 := hO.2.2 0 rfl
  refine ⟨⟨(hO.2.1 2 rfl).trans (h2.trans (hT.2 27 rfl).symm), (hT.2 27 rfl).trans hg⟩, 2, (hT.2 26 rfl).trans h26, by decide, fun e => absurd e (by decide), ?_⟩
  show d = 0 ∧ (vw S.1 S.2.1).2.1 b 0 = some (D.1.1.1 34)
  rw [p0]
  exact h
theorem LFz.k3 {cc : Bool} (hO : OWx cc S b fi fp) (hT : OWt S n ft) (h2 : fi 2 = ft 27) (h26 : ft 26 = i_ 3) (h : d = 0 ∧ (fp 0) = some (D.1.1.1 42)) (hg : ft 27 = i_ (g s) := by first | rfl | assumption) : LFz D (vw S.1 S.2.1) S.2.2.2.2.2.2 T2 S.2.2.2.2.2.1 (rk, g, s, e) d b n := by
  have p0 : (vw S.1 S.2.1).2.1 b 0 = fp 0 := hO.2.2 0 rfl
  refine ⟨⟨(hO.2.1 2 rfl).trans (h2.trans (hT.2 27 rfl).symm), (hT.2 27 rfl).trans hg⟩, 3, (hT.2 26 rfl).trans h26, by decide, fun e => absurd e (by decide), ?_⟩
  show d = 0 ∧ (vw S.1 S.2.1).2.1 b 0 = some (D.1.1.1 42)
  rw [p0]
  exact h
theorem LFz.k4 {cc : Bool} (hO : OWx cc S b fi fp) (hT : OWt S n ft) (h2 : fi 2 = ft 27) (h26 : ft 26 = i_ 4) (h : d = 0 ∧ (fp 0) = some (D.1.1.1 36) ∧ LEz (vw S.1 S.2.1) S.2.2.2.2.2.2 S.2.2.2.2.2.1 rk (some ((ft 27)), 0, rk, g, s, e) ((fp 3)) ((ft 28)) ∧ S1z (vw S.1 S.2.1) S.2.2.2.2.2.2 S.2.2.2.2.2.1 rk (some ((ft 27)), 0, rk, g, s, e) 0 ((fp 4)) ((ft 29))) (hg : ft 27 = i_ (g s) := by first | rfl | assumption) : LFz D (vw S.1 S.2.1) S.2.2.2.2.2.2 T2 S.2.2.2.2.2.1 (rk, g, s, e) d b n := by
  have t27 : (vw S.1 S.2.1).2.2.1 27 n = ft 27 := hT.2 27 rfl
  have t28 : (vw S.1 S.2.1).2.2.1 28 n = ft 28 := hT.2 28 rfl
  have t29 : (vw S.1 S.2.1).2.2.1 29 n = ft 29 := hT.2 29 rfl
  have p0 : (vw S.1 S.2.1).2.1 b 0 = fp 0 := hO.2.2 0 rfl
  have p3 : (vw S.1 S.2.1).2.1 b 3 = fp 3 := hO.2.2 3 rfl
  have p4 : (vw S.1 S.2.1).2.1 b 4 = fp 4 := hO.2.2 4 rfl
  refine ⟨⟨(hO.2.1 2 rfl).trans (h2.trans (hT.2 27 rfl).symm), (hT.2 27 rfl).trans hg⟩, 4, (hT.2 26 rfl).trans h26, by decide, fun e => absurd e (by decide), ?_⟩
  show d = 0 ∧ (vw S.1 S.2.1).2.1 b 0 = some (D.1.1.1 36) ∧ LEz (vw S.1 S.2.1) S.2.2.2.2.2.2 S.2.2.2.2.2.1 rk (some ((vw S.1 S.2.1).2.2.1 27 n), 0, rk, g, s, e) ((vw S.1 S.2.1).2.1 b 3) ((vw S.1 S.2.1).2.2.1 28 n) ∧ S1z (vw S.1 S.2.1) S.2.2.2.2.2.2 S.2.2.2.2.2.1 rk (some ((vw S.1 S.2.1).2.2.1 27 n), 0, rk, g, s, e) 0 ((vw S.1 S.2.1).2.1 b 4) ((vw S.1 S.2.1).2.2.1 29 n)
  rw [t27, t28, t29, p0, p3, p4]
  exact h
theorem LFz.k5 {cc : Bool} (hO : OWx cc S b fi fp) (hT : OWt S n ft) (h2 : fi 2 = ft 27) (h26 : ft 26 = i_ 5) (h : d = 0 ∧ (fp 0) = some (D.1.1.1 40) ∧ EEz (vw S.1 S.2.1) S.2.2.2.2.2.2 S.2.2.2.2.2.1 rk (some ((ft 27)), 0, rk, g, s, e) ((fp 3)) ((ft 28)) ∧ LEz (vw S.1 S.2.1) S.2.2.2.2.2.2 S.2.2.2.2.2.1 rk (some ((ft 27)), 0, rk, g, s, e) ((fp 4)) ((ft 29))) (hg : ft 27 = i_ (g s) := by first | rfl | assumption) : LFz D (vw S.1 S.2.1) S.2.2.2.2.2.2 T2 S.2.2.2.2.2.1 (rk, g, s, e) d b n := by
  have t27 : (vw S.1 S.2.1).2.2.1 27 n = ft 27 := hT.2 27 rfl
  have t28 : (vw S.1 S.2.1).2.2.1 28 n = ft 28 := hT.2 28 rfl
  have t29 : (vw S.1 S.2.1).2.2.1 29 n = ft 29 := hT.2 29 rfl
  have p0 : (vw S.1 S.2.1).2.1 b 0 = fp 0 := hO.2.2 0 rfl
  have p3 : (vw S.1 S.2.1).2.1 b 3 = fp 3 := hO.2.2 3 rfl
  have p4 : (vw S.1 S.2.1).2.1 b 4 = fp 4 := hO.2.2 4 rfl
  refine ⟨⟨(hO.2.1 2 rfl).trans (h2.trans (hT.2 27 rfl).symm), (hT.2 27 rfl).trans hg⟩, 5, (hT.2 26 rfl).trans h26, by decide, fun e => absurd e (by decide), ?_⟩
  show d = 0 ∧ (vw S.1 S.2.1).2.1 b 0 = some (D.1.1.1 40) ∧ EEz (vw S.1 S.2.1) S.2.2.2.2.2.2 S.2.2.2.2.2.1 rk (some ((vw S.1 S.2.1).2.2.1 27 n), 0, rk, g, s, e) ((vw S.1 S.2.1).2.1 b 3) ((vw S.1 S.2.1).2.2.1 28 n) ∧ LEz (vw S.1 S.2.1) S.2.2.2.2.2.2 S.2.2.2.2.2.1 rk (some ((vw S.1 S.2.1).2.2.1 27 n), 0, rk, g, s, e) ((vw S.1 S.2.1).2.1 b 4) ((vw S.1 S.2.1).2.2.1 29 n)
  rw [t27, t28, t29, p0, p3, p4]
  exact h
theorem LFz.k6 {cc : Bool} (hO : OWx cc S b fi fp) (hT : OWt S n ft) (h2 : fi 2 = ft 27) (h26 : ft 26 = i_ 6) (h : d = 0 ∧ (fp 0) = some (D.1.1.1 38) ∧ EEz (vw S.1 S.2.1) S.2.2.2.2.2.2 S.2.2.2.2.2.1 rk (some ((ft 27)), 0, rk, g, s, e) ((fp 3)) ((ft 28)) ∧ ECz (vw S.1 S.2.1) S.2.2.2.2.2.2 S.2.2.2.2.2.1 rk (some ((ft 27)), 0, rk, g, s, e) 0 ((fp 4)) ((ft 29))) (hg : ft 27 = i_ (g s) := by first | rfl | assumption) : LFz D (vw S.1 S.2.1) S.2.2.2.2.2.2 T2 S.2.2.2.2.2.1 (rk, g, s, e) d b n := by
  have t27 : (vw S.1 S.2.1).2.2.1 27 n = ft 27 := hT.2 27 rfl
  have t28 : (vw S.1 S.2.1).2.2.1 28 n = ft 28 := hT.2 28 rfl
  have t29 : (vw S.1 S.2.1).2.2.1 29 n = ft 29 := hT.2 29 rfl
  have p0 : (vw S.1 S.2.1).2.1 b 0 = fp 0 := hO.2.2 0 rfl
  have p3 : (vw S.1 S.2.1).2.1 b 3 = fp 3 := hO.2.2 3 rfl
  have p4 : (vw S.1 S.2.1).2.1 b 4 = fp 4 := hO.2.2 4 rfl
  refine ⟨⟨(hO.2.1 2 rfl).trans (h2.trans (hT.2 27 rfl).symm), (hT.2 27 rfl).trans hg⟩, 6, (hT.2 26 rfl).trans h26, by decide, fun e => absurd e (by decide), ?_⟩
  show d = 0 ∧ (vw S.1 S.2.1).2.1 b 0 = some (D.1.1.1 38) ∧ EEz (vw S.1 S.2.1) S.2.2.2.2.2.2 S.2.2.2.2.2.1 rk (some ((vw S.1 S.2.1).2.2.1 27 n), 0, rk, g, s, e) ((vw S.1 S.2.1).2.1 b 3) ((vw S.1 S.2.1).2.2.1 28 n) ∧ ECz (vw S.1 S.2.1) S.2.2.2.2.2.2 S.2.2.2.2.2.1 rk (some ((vw S.1 S.2.1).2.2.1 27 n), 0, rk, g, s, e) 0 ((vw S.1 S.2.1).2.1 b 4) ((vw S.1 S.2.1).2.2.1 29 n)
  rw [t27, t28, t29, p0, p3, p4]
  exact h
theorem LFz.k7 {cc : Bool} (hO : OWx cc S b fi fp) (hT : OWt S n ft) (h2 : fi 2 = ft 27) (h26 : ft 26 = i_ 7) (h : (fp 0) = some (D.1.1.1 39) ∧ EEz (vw S.1 S.2.1) S.2.2.2.2.2.2 S.2.2.2.2.2.1 rk (some ((ft 27)), 0, rk, g, s, e) ((fp 3)) ((ft 28)) ∧ S1z (vw S.1 S.2.1) S.2.2.2.2.2.2 S.2.2.2.2.2.1 rk (none, 19, rk, g, s, e) d ((fp 4)) ((ft 29))) (hg : ft 27 = i_ (g s) := by first | rfl | assumption) : LFz D (vw S.1 S.2.1) S.2.2.2.2.2.2 T2 S.2.2.2.2.2.1 (rk, g, s, e) d b n := by
  have t27 : (vw S.1 S.2.1).2.2.1 27 n = ft 27 := hT.2 27 rfl
  have t28 : (vw S.1 S.2.1).2.2.1 28 n = ft 28 := hT.2 28 rfl
  have t29 : (vw S.1 S.2.1).2.2.1 29 n = ft 29 := hT.2 29 rfl
  have p0 : (vw S.1 S.2.1).2.1 b 0 = fp 0 := hO.2.2 0 rfl
  have p3 : (vw S.1 S.2.1).2.1 b 3 = fp 3 := hO.2.2 3 rfl
  have p4 : (vw S.1 S.2.1).2.1 b 4 = fp 4 := hO.2.2 4 rfl
  refine ⟨⟨(hO.2.1 2 rfl).trans (h2.trans (hT.2 27 rfl).symm), (hT.2 27 rfl).trans hg⟩, 7, (hT.2 26 rfl).trans h26, by decide, fun e => absurd e (by decide), ?_⟩
  show (vw S.1 S.2.1).2.1 b 0 = some (D.1.1.1 39) ∧ EEz (vw S.1 S.2.1) S.2.2.2.2.2.2 S.2.2.2.2.2.1 rk (some ((vw S.1 S.2.1).2.2.1 27 n), 0, rk, g, s, e) ((vw S.1 S.2.1).2.1 b 3) ((vw S.1 S.2.1).2.2.1 28 n) ∧ S1z (vw S.1 S.2.1) S.2.2.2.2.2.2 S.2.2.2.2.2.1 rk (none, 19, rk, g, s, e) d ((vw S.1 S.2.1).2.1 b 4) ((vw S.1 S.2.1).2.2.1 29 n)
  rw [t27, t28, t29, p0, p3, p4]
  exact h
theorem LFz.k8 {cc : Bool} (hO : OWx cc S b fi fp) (hT : OWt S n ft) (h2 : fi 2 = ft 27) (h26 : ft 26 = i_ 8) (h : d = 0 ∧ (fp 0) = some (D.1.1.1 37) ∧ EEz (vw S.1 S.2.1) S.2.2.2.2.2.2 S.2.2.2.2.2.1 rk (some ((ft 27)), 0, rk, g, s, e) ((fp 3)) ((ft 28)) ∧ S1z (vw S.1 S.2.1) S.2.2.2.2.2.2 S.2.2.2.2.2.1 rk (some ((ft 27)), 0, rk, g, s, e) 0 ((fp 4)) ((ft 29))) (hg : ft 27 = i_ (g s) := by first | rfl | assumption) : LFz D (vw S.1 S.2.1) S.2.2.2.2.2.2 T2 S.2.2.2.2.2.1 (rk, g, s, e) d b n := by
  have t27 : (vw S.1 S.2.1).2.2.1 27 n = ft 27 := hT.2 27 rfl
  have t28 : (vw S.1 S.2.1).2.2.1 28 n = ft 28 := hT.2 28 rfl
  have t29 : (vw S.1 S.2.1).2.2.1 29 n = ft 29 := hT.2 29 rfl
  have p0 : (vw S.1 S.2.1).2.1 b 0 = fp 0 := hO.2.2 0 rfl
  have p3 : (vw S.1 S.2.1).2.1 b 3 = fp 3 := hO.2.2 3 rfl
  have p4 : (vw S.1 S.2.1).2.1 b 4 = fp 4 := hO.2.2 4 rfl
  refine ⟨⟨(hO.2.1 2 rfl).trans (h2.trans (hT.2 27 rfl).symm), (hT.2 27 rfl).trans hg⟩, 8, (hT.2 26 rfl).trans h26, by decide, fun e => absurd e (by decide), ?_⟩
  show d = 0 ∧ (vw S.1 S.2.1).2.1 b 0 = some (D.1.1.1 37) ∧ EEz (vw S.1 S.2.1) S.2.2.2.2.2.2 S.2.2.2.2.2.1 rk (some ((vw S.1 S.2.1).2.2.1 27 n), 0, rk, g, s, e) ((vw S.1 S.2.1).2.1 b 3) ((vw S.1 S.2.1).2.2.1 28 n) ∧ S1z (vw S.1 S.2.1) S.2.2.2.2.2.2 S.2.2.2.2.2.1 rk (some ((vw S.1 S.2.1).2.2.1 27 n), 0, rk, g, s, e) 0 ((vw S.1 S.2.1).2.1 b 4) ((vw S.1 S.2.1).2.2.1 29 n)
  rw [t27, t28, t29, p0, p3, p4]
  exact h
theorem LFz.k9 {cc : Bool} (hO : OWx cc S b fi fp) (hT : OWt S n ft) (h2 : fi 2 = ft 27) (h26 : ft 26 = i_ 9) (h : d = 0 ∧ (fp 0) = some (D.1.1.1 35) ∧ nmr D ((fi 9)) ((ft 30)) ∧ SLz (vw S.1 S.2.1) S.2.2.2.2.2.2 S.2.2.2.2.2.1 rk (some ((ft 27)), 0, rk, g, s, e) 0 ((fp 4)) ((ft 28))) (hg : ft 27 = i_ (g s) := by first | rfl | assumption) : LFz D (vw S.1 S.2.1) S.2.2.2.2.2.2 T2 S.2.2.2.2.2.1 (rk, g, s, e) d b n := by
  have t30 : (vw S.1 S.2.1).2.2.1 30 n = ft 30 := hT.2 30 rfl
  have t27 : (vw S.1 S.2.1).2.2.1 27 n = ft 27 := hT.2 27 rfl
  have t28 : (vw S.1 S.2.1).2.2.1 28 n = ft 28 := hT.2 28 rfl
  have p0 : (vw S.1 S.2.1).2.1 b 0 = fp 0 := hO.2.2 0 rfl
  have p4 : (vw S.1 S.2.1).2.1 b 4 = fp 4 := hO.2.2 4 rfl
  have i9 : (vw S.1 S.2.1).1 b 9 = fi 9 := hO.2.1 9 rfl
  refine ⟨⟨(hO.2.1 2 rfl).trans (h2.trans (hT.2 27 rfl).symm), (hT.2 27 rfl).trans hg⟩, 9, (hT.2 26 rfl).trans h26, by decide, fun e => absurd e (by decide), ?_⟩
  show d = 0 ∧ (vw S.1 S.2.1).2.1 b 0 = some (D.1.1.1 35) ∧ nmr D ((vw S.1 S.2.1).1 b 9) ((vw S.1 S.2.1).2.2.1 30 n) ∧ SLz (vw S.1 S.2.1) S.2.2.2.2.2.2 S.2.2.2.2.2.1 rk (some ((vw S.1 S.2.1).2.2.1 27 n), 0, rk, g, s, e) 0 ((vw S.1 S.2.1).2.1 b 4) ((vw S.1 S.2.1).2.2.1 28 n)
  rw [t30, t27, t28, p0, p4, i9]
  exact h
theorem LFz.k10 {cc : Bool} (hO : OWx cc S b fi fp) (hT : OWt S n ft) (h2 : fi 2 = ft 27) (h26 : ft 26 = i_ 10) (h : (fp 0) = some (D.1.1.1 43) ∧ SRz (vw S.1 S.2.1) S.2.2.2.2.2.2 S.2.2.2.2.2.1 rk g s e 1 d ((fp 3)) ((ft 28)) ((fp 4)) ((ft 29))) (hg : ft 27 = i_ (g s) := by first | rfl | assumption) : LFz D (vw S.1 S.2.1) S.2.2.2.2.2.2 T2 S.2.2.2.2.2.1 (rk, g, s, e) d b n := by
  have t28 : (vw S.1 S.2.1).2.2.1 28 n = ft 28 := hT.2 28 rfl
  have t29 : (vw S.1 S.2.1).2.2.1 29 n = ft 29 := hT.2 29 rfl
  have p0 : (vw S.1 S.2.1).2.1 b 0 = fp 0 := hO.2.2 0 rfl
  have p3 : (vw S.1 S.2.1).2.1 b 3 = fp 3 := hO.2.2 3 rfl
  have p4 : (vw S.1 S.2.1).2.1 b 4 = fp 4 := hO.2.2 4 rfl
  refine ⟨⟨(hO.2.1 2 rfl).trans (h2.trans (hT.2 27 rfl).symm), (hT.2 27 rfl).trans hg⟩, 10, (hT.2 26 rfl).trans h26, by decide, fun e => absurd e (by decide), ?_⟩
  show (vw S.1 S.2.1).2.1 b 0 = some (D.1.1.1 43) ∧ SRz (vw S.1 S.2.1) S.2.2.2.2.2.2 S.2.2.2.2.2.1 rk g s e 1 d ((vw S.1 S.2.1).2.1 b 3) ((vw S.1 S.2.1).2.2.1 28 n) ((vw S.1 S.2.1).2.1 b 4) ((vw S.1 S.2.1).2.2.1 29 n)
  rw [t28, t29, p0, p3, p4]
  exact h
theorem LFz.k11 {cc : Bool} (hO : OWx cc S b fi fp) (hT : OWt S n ft) (h2 : fi 2 = ft 27) (h26 : ft 26 = i_ 11) (h : (fp 0) = some (D.1.1.1 44) ∧ SRz (vw S.1 S.2.1) S.2.2.2.2.2.2 S.2.2.2.2.2.1 rk g s e 1 d ((fp 3)) ((ft 28)) ((fp 4)) ((ft 29))) (hg : ft 27 = i_ (g s) := by first | rfl | assumption) : LFz D (vw S.1 S.2.1) S.2.2.2.2.2.2 T2 S.2.2.2.2.2.1 (rk, g, s, e) d b n := by
  have t28 : (vw S.1 S.2.1).2.2.1 28 n = ft 28 := hT.2 28 rfl
  have t29 : (vw S.1 S.2.1).2.2.1 29 n = ft 29 := hT.2 29 rfl
  have p0 : (vw S.1 S.2.1).2.1 b 0 = fp 0 := hO.2.2 0 rfl
  have p3 : (vw S.1 S.2.1).2.1 b 3 = fp 3 := hO.2.2 3 rfl
  have p4 : (vw S.1 S.2.1).2.1 b 4 = fp 4 := hO.2.2 4 rfl
  refine ⟨⟨(hO.2.1 2 rfl).trans (h2.trans (hT.2 27 rfl).symm), (hT.2 27 rfl).trans hg⟩, 11, (hT.2 26 rfl).trans h26, by decide, fun e => absurd e (by decide), ?_⟩
  show (vw S.1 S.2.1).2.1 b 0 = some (D.1.1.1 44) ∧ SRz (vw S.1 S.2.1) S.2.2.2.2.2.2 S.2.2.2.2.2.1 rk g s e 1 d ((vw S.1 S.2.1).2.1 b 3) ((vw S.1 S.2.1).2.2.1 28 n) ((vw S.1 S.2.1).2.1 b 4) ((vw S.1 S.2.1).2.2.1 29 n)
  rw [t28, t29, p0, p3, p4]
  exact h
theorem LFz.k12 {cc : Bool} (hO : OWx cc S b fi fp) (hT : OWt S n ft) (h2 : fi 2 = ft 27) (h26 : ft 26 = i_ 12) (h : (fp 0) = some (D.1.1.1 46) ∧ (fp 3) = none ∧ SLz (vw S.1 S.2.1) S.2.2.2.2.2.2 S.2.2.2.2.2.1 rk (none, 13, rk, g, s, e) d ((fp 4)) ((ft 29))) (hg : ft 27 = i_ (g s) := by first | rfl | assumption) : LFz D (vw S.1 S.2.1) S.2.2.2.2.2.2 T2 S.2.2.2.2.2.1 (rk, g, s, e) d b n := by
  have t29 : (vw S.1 S.2.1).2.2.1 29 n = ft 29 := hT.2 29 rfl
  have p0 : (vw S.1 S.2.1).2.1 b 0 = fp 0 := hO.2.2 0 rfl
  have p3 : (vw S.1 S.2.1).2.1 b 3 = fp 3 := hO.2.2 3 rfl
  have p4 : (vw S.1 S.2.1).2.1 b 4 = fp 4 := hO.2.2 4 rfl
  refine ⟨⟨(hO.2.1 2 rfl).trans (h2.trans (hT.2 27 rfl).symm), (hT.2 27 rfl).trans hg⟩, 12, (hT.2 26 rfl).trans h26, by decide, fun e => absurd e (by decide), ?_⟩
  show (vw S.1 S.2.1).2.1 b 0 = some (D.1.1.1 46) ∧ (vw S.1 S.2.1).2.1 b 3 = none ∧ SLz (vw S.1 S.2.1) S.2.2.2.2.2.2 S.2.2.2.2.2.1 rk (none, 13, rk, g, s, e) d ((vw S.1 S.2.1).2.1 b 4) ((vw S.1 S.2.1).2.2.1 29 n)
  rw [t29, p0, p3, p4]
  exact h
theorem LFz.k13 {cc : Bool} (hO : OWx cc S b fi fp) (hT : OWt S n ft) (h2 : fi 2 = ft 27) (h26 : ft 26 = i_ 13) (h : (fp 0) = some (D.1.1.1 47) ∧ (∃ q, (fp 3) = some q ∧ (vw S.1 S.2.1).2.1 q 7 = none) ∧ ECz (vw S.1 S.2.1) S.2.2.2.2.2.2 S.2.2.2.2.2.1 rk (some ((ft 27)), 0, rk, g, s, e) 0 ((fp 3)) ((ft 28)) ∧ ECz (vw S.1 S.2.1) S.2.2.2.2.2.2 S.2.2.2.2.2.1 rk (none, 1, rk, g, s, e) d ((fp 4)) ((ft 29))) (hg : ft 27 = i_ (g s) := by first | rfl | assumption) : LFz D (vw S.1 S.2.1) S.2.2.2.2.2.2 T2 S.2.2.2.2.2.1 (rk, g, s, e) d b n := by
  have t27 : (vw S.1 S.2.1).2.2.1 27 n = ft 27 := hT.2 27 rfl
  have t28 : (vw S.1 S.2.1).2.2.1 28 n = ft 28 := hT.2 28 rfl
  have t29 : (vw S.1 S.2.1).2.2.1 29 n = ft 29 := hT.2 29 rfl
  have p0 : (vw S.1 S.2.1).2.1 b 0 = fp 0 := hO.2.2 0 rfl
  have p3 : (vw S.1 S.2.1).2.1 b 3 = fp 3 := hO.2.2 3 rfl
  have p4 : (vw S.1 S.2.1).2.1 b 4 = fp 4 := hO.2.2 4 rfl
  refine ⟨⟨(hO.2.1 2 rfl).trans (h2.trans (hT.2 27 rfl).symm), (hT.2 27 rfl).trans hg⟩, 13, (hT.2 26 rfl).trans h26, by decide, fun e => absurd e (by decide), ?_⟩
  show (vw S.1 S.2.1).2.1 b 0 = some (D.1.1.1 47) ∧ (∃ q, (vw S.1 S.2.1).2.1 b 3 = some q ∧ (vw S.1 S.2.1).2.1 q 7 = none) ∧ ECz (vw S.1 S.2.1) S.2.2.2.2.2.2 S.2.2.2.2.2.1 rk (some ((vw S.1 S.2.1).2.2.1 27 n), 0, rk, g, s, e) 0 ((vw S.1 S.2.1).2.1 b 3) ((vw S.1 S.2.1).2.2.1 28 n) ∧ ECz (vw S.1 S.2.1) S.2.2.2.2.2.2 S.2.2.2.2.2.1 rk (none, 1, rk, g, s, e) d ((vw S.1 S.2.1).2.1 b 4) ((vw S.1 S.2.1).2.2.1 29 n)
  rw [t27, t28, t29, p0, p3, p4]
  exact h
theorem LFz.k14 {cc : Bool} (hO : OWx cc S b fi fp) (hT : OWt S n ft) (h2 : fi 2 = ft 27) (h26 : ft 26 = i_ 14) (h : (fp 0) = some (D.1.1.1 48) ∧ ECz (vw S.1 S.2.1) S.2.2.2.2.2.2 S.2.2.2.2.2.1 rk (some ((ft 27)), 0, rk, g, s, e) 0 ((fp 3)) ((ft 28)) ∧ SLz (vw S.1 S.2.1) S.2.2.2.2.2.2 S.2.2.2.2.2.1 rk (none, 15, rk, g, s, e) d ((fp 4)) ((ft 29))) (hg : ft 27 = i_ (g s) := by first | rfl | assumption) : LFz D (vw S.1 S.2.1) S.2.2.2.2.2.2 T2 S.2.2.2.2.2.1 (rk, g, s, e) d b n := by
  have t27 : (vw S.1 S.2.1).2.2.1 27 n = ft 27 := hT.2 27 rfl
  have t28 : (vw S.1 S.2.1).2.2.1 28 n = ft 28 := hT.2 28 rfl
  have t29 : (vw S.1 S.2.1).2.2.1 29 n = ft 29 := hT.2 29 rfl
  have p0 : (vw S.1 S.2.1).2.1 b 0 = fp 0 := hO.2.2 0 rfl
  have p3 : (vw S.1 S.2.1).2.1 b 3 = fp 3 := hO.2.2 3 rfl
  have p4 : (vw S.1 S.2.1).2.1 b 4 = fp 4 := hO.2.2 4 rfl
  refine ⟨⟨(hO.2.1 2 rfl).trans (h2.trans (hT.2 27 rfl).symm), (hT.2 27 rfl).trans hg⟩, 14, (hT.2 26 rfl).trans h26, by decide, fun e => absurd e (by decide), ?_⟩
  show (vw S.1 S.2.1).2.1 b 0 = some (D.1.1.1 48) ∧ ECz (vw S.1 S.2.1) S.2.2.2.2.2.2 S.2.2.2.2.2.1 rk (some ((vw S.1 S.2.1).2.2.1 27 n), 0, rk, g, s, e) 0 ((vw S.1 S.2.1).2.1 b 3) ((vw S.1 S.2.1).2.2.1 28 n) ∧ SLz (vw S.1 S.2.1) S.2.2.2.2.2.2 S.2.2.2.2.2.1 rk (none, 15, rk, g, s, e) d ((vw S.1 S.2.1).2.1 b 4) ((vw S.1 S.2.1).2.2.1 29 n)
  rw [t27, t28, t29, p0, p3, p4]
  exact h
theorem LFz.k15 {cc : Bool} (hO : OWx cc S b fi fp) (hT : OWt S n ft) (h2 : fi 2 = ft 27) (h26 : ft 26 = i_ 15) (h : (fp 0) = some (D.1.1.1 49) ∧ ECz (vw S.1 S.2.1) S.2.2.2.2.2.2 S.2.2.2.2.2.1 rk (none, 1, rk, g, s, e) d ((fp 4)) ((ft 29)) ∧ (((fi 11) = 1 ∧ (fp 3) = none ∧ (ft 28) = -1) ∨ ((fi 11) = 0 ∧ S1z (vw S.1 S.2.1) S.2.2.2.2.2.2 S.2.2.2.2.2.1 rk (some ((ft 27)), 0, rk, g, s, e) 0 ((fp 3)) ((ft 28))))) (hg : ft 27 = i_ (g s) := by first | rfl | assumption) : LFz D (vw S.1 S.2.1) S.2.2.2.2.2.2 T2 S.2.2.2.2.2.1 (rk, g, s, e) d b n := by
  have t29 : (vw S.1 S.2.1).2.2.1 29 n = ft 29 := hT.2 29 rfl
  have t28 : (vw S.1 S.2.1).2.2.1 28 n = ft 28 := hT.2 28 rfl
  have t27 : (vw S.1 S.2.1).2.2.1 27 n = ft 27 := hT.2 27 rfl
  have p0 : (vw S.1 S.2.1).2.1 b 0 = fp 0 := hO.2.2 0 rfl
  have p4 : (vw S.1 S.2.1).2.1 b 4 = fp 4 := hO.2.2 4 rfl
  have p3 : (vw S.1 S.2.1).2.1 b 3 = fp 3 := hO.2.2 3 rfl
  have i11 : (vw S.1 S.2.1).1 b 11 = fi 11 := hO.2.1 11 rfl
  refine ⟨⟨(hO.2.1 2 rfl).trans (h2.trans (hT.2 27 rfl).symm), (hT.2 27 rfl).trans hg⟩, 15, (hT.2 26 rfl).trans h26, by decide, fun e => absurd e (by decide), ?_⟩
  show (vw S.1 S.2.1).2.1 b 0 = some (D.1.1.1 49) ∧ ECz (vw S.1 S.2.1) S.2.2.2.2.2.2 S.2.2.2.2.2.1 rk (none, 1, rk, g, s, e) d ((vw S.1 S.2.1).2.1 b 4) ((vw S.1 S.2.1).2.2.1 29 n) ∧ (((vw S.1 S.2.1).1 b 11 = 1 ∧ (vw S.1 S.2.1).2.1 b 3 = none ∧ (vw S.1 S.2.1).2.2.1 28 n = -1) ∨ ((vw S.1 S.2.1).1 b 11 = 0 ∧ S1z (vw S.1 S.2.1) S.2.2.2.2.2.2 S.2.2.2.2.2.1 rk (some ((vw S.1 S.2.1).2.2.1 27 n), 0, rk, g, s, e) 0 ((vw S.1 S.2.1).2.1 b 3) ((vw S.1 S.2.1).2.2.1 28 n)))
  rw [t29, t28, t27, p0, p4, p3, i11]
  exact h
theorem LFz.k16 {cc : Bool} (hO : OWx cc S b fi fp) (hT : OWt S n ft) (h2 : fi 2 = ft 27) (h26 : ft 26 = i_ 16) (h : (fp 0) = some (D.1.1.1 50) ∧ ECz (vw S.1 S.2.1) S.2.2.2.2.2.2 S.2.2.2.2.2.1 rk (some ((ft 27)), 0, rk, g, s, e) 0 ((fp 3)) ((ft 28)) ∧ ECz (vw S.1 S.2.1) S.2.2.2.2.2.2 S.2.2.2.2.2.1 rk (none, 1, rk, g, s, e) d ((fp 4)) ((ft 29))) (hg : ft 27 = i_ (g s) := by first | rfl | assumption) : LFz D (vw S.1 S.2.1) S.2.2.2.2.2.2 T2 S.2.2.2.2.2.1 (rk, g, s, e) d b n := by
  have t27 : (vw S.1 S.2.1).2.2.1 27 n = ft 27 := hT.2 27 rfl
  have t28 : (vw S.1 S.2.1).2.2.1 28 n = ft 28 := hT.2 28 rfl
  have t29 : (vw S.1 S.2.1).2.2.1 29 n = ft 29 := hT.2 29 rfl
  have p0 : (vw S.1 S.2.1).2.1 b 0 = fp 0 := hO.2.2 0 rfl
  have p3 : (vw S.1 S.2.1).2.1 b 3 = fp 3 := hO.2.2 3 rfl
  have p4 : (vw S.1 S.2.1).2.1 b 4 = fp 4 := hO.2.2 4 rfl
  refine ⟨⟨(hO.2.1 2 rfl).trans (h2.trans (hT.2 27 rfl).symm), (hT.2 27 rfl).trans hg⟩, 16, (hT.2 26 rfl).trans h26, by decide, fun e => absurd e (by decide), ?_⟩
  show (vw S.1 S.2.1).2.1 b 0 = some (D.1.1.1 50) ∧ ECz (vw S.1 S.2.1) S.2.2.2.2.2.2 S.2.2.2.2.2.1 rk (some ((vw S.1 S.2.1).2.2.1 27 n), 0, rk, g, s, e) 0 ((vw S.1 S.2.1).2.1 b 3) ((vw S.1 S.2.1).2.2.1 28 n) ∧ ECz (vw S.1 S.2.1) S.2.2.2.2.2.2 S.2.2.2.2.2.1 rk (none, 1, rk, g, s, e) d ((vw S.1 S.2.1).2.1 b 4) ((vw S.1 S.2.1).2.2.1 29 n)
  rw [t27, t28, t29, p0, p3, p4]
  exact h
theorem LFz.k17 {cc : Bool} (hO : OWx cc S b fi fp) (hT : OWt S n ft) (h2 : fi 2 = ft 27) (h26 : ft 26 = i_ 17) (h : (fp 0) = some (D.1.1.1 51) ∧ (∃ q : Bool, (fi 11) = bI q ∧ (ft 30) = bI q) ∧ SRz (vw S.1 S.2.1) S.2.2.2.2.2.2 S.2.2.2.2.2.1 rk g s e 18 d ((fp 3)) ((ft 28)) ((fp 4)) ((ft 29))) (hg : ft 27 = i_ (g s) := by first | rfl | assumption) : LFz D (vw S.1 S.2.1) S.2.2.2.2.2.2 T2 S.2.2.2.2.2.1 (rk, g, s, e) d b n := by
  have t30 : (vw S.1 S.2.1).2.2.1 30 n = ft 30 := hT.2 30 rfl
  have t28 : (vw S.1 S.2.1).2.2.1 28 n = ft 28 := hT.2 28 rfl
  have t29 : (vw S.1 S.2.1).2.2.1 29 n = ft 29 := hT.2 29 rfl
  have p0 : (vw S.1 S.2.1).2.1 b 0 = fp 0 := hO.2.2 0 rfl
  have p3 : (vw S.1 S.2.1).2.1 b 3 = fp 3 := hO.2.2 3 rfl
  have p4 : (vw S.1 S.2.1).2.1 b 4 = fp 4 := hO.2.2 4 rfl
  have i11 : (vw S.1 S.2.1).1 b 11 = fi 11 := hO.2.1 11 rfl
  refine ⟨⟨(hO.2.1 2 rfl).trans (h2.trans (hT.2 27 rfl).symm), (hT.2 27 rfl).trans hg⟩, 17, (hT.2 26 rfl).trans h26, by decide, fun e => absurd e (by decide), ?_⟩
  show (vw S.1 S.2.1).2.1 b 0 = some (D.1.1.1 51) ∧ (∃ q : Bool, (vw S.1 S.2.1).1 b 11 = bI q ∧ (vw S.1 S.2.1).2.2.1 30 n = bI q) ∧ SRz (vw S.1 S.2.1) S.2.2.2.2.2.2 S.2.2.2.2.2.1 rk g s e 18 d ((vw S.1 S.2.1).2.1 b 3) ((vw S.1 S.2.1).2.2.1 28 n) ((vw S.1 S.2.1).2.1 b 4) ((vw S.1 S.2.1).2.2.1 29 n)
  rw [t30, t28, t29, p0, p3, p4, i11]
  exact h
theorem LFz.k19 {cc : Bool} (hO : OWx cc S b fi fp) (hT : OWt S n ft) (h2 : fi 2 = ft 27) (h26 : ft 26 = i_ 19) (h : (fp 0) = some (D.1.1.1 41) ∧ nmr D ((fi 9)) ((ft 28)) ∧ (((fp 4) = none ∧ (ft 29) = -1) ∨ LEz (vw S.1 S.2.1) S.2.2.2.2.2.2 S.2.2.2.2.2.1 rk (some ((ft 27)), 0, rk, g, s, e) ((fp 4)) ((ft 29))) ∧ ECz (vw S.1 S.2.1) S.2.2.2.2.2.2 S.2.2.2.2.2.1 rk (none, 1, rk, g, s, e) d ((fp 6)) ((ft 30))) (hg : ft 27 = i_ (g s) := by first | rfl | assumption) : LFz D (vw S.1 S.2.1) S.2.2.2.2.2.2 T2 S.2.2.2.2.2.1 (rk, g, s, e) d b n := by
  have t28 : (vw S.1 S.2.1).2.2.1 28 n = ft 28 := hT.2 28 rfl
  have t29 : (vw S.1 S.2.1).2.2.1 29 n = ft 29 := hT.2 29 rfl
  have t27 : (vw S.1 S.2.1).2.2.1 27 n = ft 27 := hT.2 27 rfl
  have t30 : (vw S.1 S.2.1).2.2.1 30 n = ft 30 := hT.2 30 rfl
  have p0 : (vw S.1 S.2.1).2.1 b 0 = fp 0 := hO.2.2 0 rfl
  have p4 : (vw S.1 S.2.1).2.1 b 4 = fp 4 := hO.2.2 4 rfl
  have p6 : (vw S.1 S.2.1).2.1 b 6 = fp 6 := hO.2.2 6 rfl
  have i9 : (vw S.1 S.2.1).1 b 9 = fi 9 := hO.2.1 9 rfl
  refine ⟨⟨(hO.2.1 2 rfl).trans (h2.trans (hT.2 27 rfl).symm), (hT.2 27 rfl).trans hg⟩, 19, (hT.2 26 rfl).trans h26, by decide, fun e => absurd e (by decide), ?_⟩
  show (vw S.1 S.2.1).2.1 b 0 = some (D.1.1.1 41) ∧ nmr D ((vw S.1 S.2.1).1 b 9) ((vw S.1 S.2.1).2.2.1 28 n) ∧ (((vw S.1 S.2.1).2.1 b 4 = none ∧ (vw S.1 S.2.1).2.2.1 29 n = -1) ∨ LEz (vw S.1 S.2.1) S.2.2.2.2.2.2 S.2.2.2.2.2.1 rk (some ((vw S.1 S.2.1).2.2.1 27 n), 0, rk, g, s, e) ((vw S.1 S.2.1).2.1 b 4) ((vw S.1 S.2.1).2.2.1 29 n)) ∧ ECz (vw S.1 S.2.1) S.2.2.2.2.2.2 S.2.2.2.2.2.1 rk (none, 1, rk, g, s, e) d ((vw S.1 S.2.1).2.1 b 6) ((vw S.1 S.2.1).2.2.1 30 n)
  rw [t28, t29, t27, t30, p0, p4, p6, i9]
  exact h
theorem LFz.k20 {cc : Bool} (hO : OWx cc S b fi fp) (hT : OWt S n ft) (h2 : fi 2 = ft 27) (h26 : ft 26 = i_ 20) (h : d = 0 ∧ (fp 0) = some (D.1.1.1 45) ∧ nmr D ((fi 9)) ((ft 30)) ∧ ECz (vw S.1 S.2.1) S.2.2.2.2.2.2 S.2.2.2.2.2.1 rk (some ((ft 27)), 0, rk, g, s, e) 0 ((fp 3)) ((ft 28)) ∧ ECz (vw S.1 S.2.1) S.2.2.2.2.2.2 S.2.2.2.2.2.1 rk (some ((ft 27)), 0, rk, g, s, e) 0 ((fp 4)) ((ft 29))) (hg : ft 27 = i_ (g s) := by first | rfl | assumption) : LFz D (vw S.1 S.2.1) S.2.2.2.2.2.2 T2 S.2.2.2.2.2.1 (rk, g, s, e) d b n := by
  have t30 : (vw S.1 S.2.1).2.2.1 30 n = ft 30 := hT.2 30 rfl
  have t27 : (vw S.1 S.2.1).2.2.1 27 n = ft 27 := hT.2 27 rfl
  have t28 : (vw S.1 S.2.1).2.2.1 28 n = ft 28 := hT.2 28 rfl
  have t29 : (vw S.1 S.2.1).2.2.1 29 n = ft 29 := hT.2 29 rfl
  have p0 : (vw S.1 S.2.1).2.1 b 0 = fp 0 := hO.2.2 0 rfl
  have p3 : (vw S.1 S.2.1).2.1 b 3 = fp 3 := hO.2.2 3 rfl
  have p4 : (vw S.1 S.2.1).2.1 b 4 = fp 4 := hO.2.2 4 rfl
  have i9 : (vw S.1 S.2.1).1 b 9 = fi 9 := hO.2.1 9 rfl
  refine ⟨⟨(hO.2.1 2 rfl).trans (h2.trans (hT.2 27 rfl).symm), (hT.2 27 rfl).trans hg⟩, 20, (hT.2 26 rfl).trans h26, by decide, fun e => absurd e (by decide), ?_⟩
  show d = 0 ∧ (vw S.1 S.2.1).2.1 b 0 = some (D.1.1.1 45) ∧ nmr D ((vw S.1 S.2.1).1 b 9) ((vw S.1 S.2.1).2.2.1 30 n) ∧ ECz (vw S.1 S.2.1) S.2.2.2.2.2.2 S.2.2.2.2.2.1 rk (some ((vw S.1 S.2.1).2.2.1 27 n), 0, rk, g, s, e) 0 ((vw S.1 S.2.1).2.1 b 3) ((vw S.1 S.2.1).2.2.1 28 n) ∧ ECz (vw S.1 S.2.1) S.2.2.2.2.2.2 S.2.2.2.2.2.1 rk (some ((vw S.1 S.2.1).2.2.1 27 n), 0, rk, g, s, e) 0 ((vw S.1 S.2.1).2.1 b 4) ((vw S.1 S.2.1).2.2.1 29 n)
  rw [t30, t27, t28, t29, p0, p3, p4, i9]
  exact h
theorem LFz.k30 {cc : Bool} (hO : OWx cc S b fi fp) (hT : OWt S n ft) (h2 : fi 2 = ft 27) (h26 : ft 26 = i_ 30) (h : (fp 0) = some (D.1.1.1 10) ∧ (fi 14) = 0 ∧ tyr ((fi 8)) ((ft 33)) ∧ (((fp 3) = none ∧ (ft 28) = -1 ∧ (ft 34) = 0) ∨ (ECz (vw S.1 S.2.1) S.2.2.2.2.2.2 S.2.2.2.2.2.1 rk (some ((ft 27)), 0, rk, g, s, e) 0 ((fp 3)) ((ft 28)) ∧ (ft 34) = 1)) ∧ LNz (vw S.1 S.2.1) S.2.2.2.2.2.2 S.2.2.2.2.2.1 rk (some ((ft 27)), 39, rk, g, s, e) d ((fp 4)) ((ft 29))) (hg : ft 27 = i_ (g s) := by first | rfl | assumption) : LFz D (vw S.1 S.2.1) S.2.2.2.2.2.2 T2 S.2.2.2.2.2.1 (rk, g, s, e) d b n := by
  have t33 : (vw S.1 S.2.1).2.2.1 33 n = ft 33 := hT.2 33 rfl
  have t28 : (vw S.1 S.2.1).2.2.1 28 n = ft 28 := hT.2 28 rfl
  have t34 : (vw S.1 S.2.1).2.2.1 34 n = ft 34 := hT.2 34 rfl
  have t27 : (vw S.1 S.2.1).2.2.1 27 n = ft 27 := hT.2 27 rfl
  have t29 : (vw S.1 S.2.1).2.2.1 29 n = ft 29 := hT.2 29 rfl
  have p0 : (vw S.1 S.2.1).2.1 b 0 = fp 0 := hO.2.2 0 rfl
  have p3 : (vw S.1 S.2.1).2.1 b 3 = fp 3 := hO.2.2 3 rfl
  have p4 : (vw S.1 S.2.1).2.1 b 4 = fp 4 := hO.2.2 4 rfl
  have i14 : (vw S.1 S.2.1).1 b 14 = fi 14 := hO.2.1 14 rfl
  have i8 : (vw S.1 S.2.1).1 b 8 = fi 8 := hO.2.1 8 rfl
  refine ⟨⟨(hO.2.1 2 rfl).trans (h2.trans (hT.2 27 rfl).symm), (hT.2 27 rfl).trans hg⟩, 30, (hT.2 26 rfl).trans h26, by decide, fun e => absurd e (by decide), ?_⟩
  show (vw S.1 S.2.1).2.1 b 0 = some (D.1.1.1 10) ∧ (vw S.1 S.2.1).1 b 14 = 0 ∧ tyr ((vw S.1 S.2.1).1 b 8) ((vw S.1 S.2.1).2.2.1 33 n) ∧ (((vw S.1 S.2.1).2.1 b 3 = none ∧ (vw S.1 S.2.1).2.2.1 28 n = -1 ∧ (vw S.1 S.2.1).2.2.1 34 n = 0) ∨ (ECz (vw S.1 S.2.1) S.2.2.2.2.2.2 S.2.2.2.2.2.1 rk (some ((vw S.1 S.2.1).2.2.1 27 n), 0, rk, g, s, e) 0 ((vw S.1 S.2.1).2.1 b 3) ((vw S.1 S.2.1).2.2.1 28 n) ∧ (vw S.1 S.2.1).2.2.1 34 n = 1)) ∧ LNz (vw S.1 S.2.1) S.2.2.2.2.2.2 S.2.2.2.2.2.1 rk (some ((vw S.1 S.2.1).2.2.1 27 n), 39, rk, g, s, e) d ((vw S.1 S.2.1).2.1 b 4) ((vw S.1 S.2.1).2.2.1 29 n)
  rw [t33, t28, t34, t27, t29, p0, p3, p4, i14, i8]
  exact h
theorem LFz.k31 {cc : Bool} (hO : OWx cc S b fi fp) (hT : OWt S n ft) (h2 : fi 2 = ft 27) (h26 : ft 26 = i_ 31) (h : (fp 0) = some (D.1.1.1 26) ∧ (fi 14) = 1 ∧ KN D (vw S.1 S.2.1) S.2.2.2.2.2.1 ((fp 5)) ((ft 33)) ∧ (((fp 3) = none ∧ (ft 28) = -1 ∧ (ft 34) = 2) ∨ (ECz (vw S.1 S.2.1) S.2.2.2.2.2.2 S.2.2.2.2.2.1 rk (some ((ft 27)), 0, rk, g, s, e) 0 ((fp 3)) ((ft 28)) ∧ (ft 34) = 3)) ∧ LNz (vw S.1 S.2.1) S.2.2.2.2.2.2 S.2.2.2.2.2.1 rk (some ((ft 27)), 39, rk, g, s, e) d ((fp 4)) ((ft 29))) (hg : ft 27 = i_ (g s) := by first | rfl | assumption) : LFz D (vw S.1 S.2.1) S.2.2.2.2.2.2 T2 S.2.2.2.2.2.1 (rk, g, s, e) d b n := by
  have t33 : (vw S.1 S.2.1).2.2.1 33 n = ft 33 := hT.2 33 rfl
  have t28 : (vw S.1 S.2.1).2.2.1 28 n = ft 28 := hT.2 28 rfl
  have t34 : (vw S.1 S.2.1).2.2.1 34 n = ft 34 := hT.2 34 rfl
  have t27 : (vw S.1 S.2.1).2.2.1 27 n = ft 27 := hT.2 27 rfl
  have t29 : (vw S.1 S.2.1).2.2.1 29 n = ft 29 := hT.2 29 rfl
  have p0 : (vw S.1 S.2.1).2.1 b 0 = fp 0 := hO.2.2 0 rfl
  have p5 : (vw S.1 S.2.1).2.1 b 5 = fp 5 := hO.2.2 5 rfl
  have p3 : (vw S.1 S.2.1).2.1 b 3 = fp 3 := hO.2.2 3 rfl
  have p4 : (vw S.1 S.2.1).2.1 b 4 = fp 4 := hO.2.2 4 rfl
  have i14 : (vw S.1 S.2.1).1 b 14 = fi 14 := hO.2.1 14 rfl
  refine ⟨⟨(hO.2.1 2 rfl).trans (h2.trans (hT.2 27 rfl).symm), (hT.2 27 rfl).trans hg⟩, 31, (hT.2 26 rfl).trans h26, by decide, fun e => absurd e (by decide), ?_⟩
  show (vw S.1 S.2.1).2.1 b 0 = some (D.1.1.1 26) ∧ (vw S.1 S.2.1).1 b 14 = 1 ∧ KN D (vw S.1 S.2.1) S.2.2.2.2.2.1 ((vw S.1 S.2.1).2.1 b 5) ((vw S.1 S.2.1).2.2.1 33 n) ∧ (((vw S.1 S.2.1).2.1 b 3 = none ∧ (vw S.1 S.2.1).2.2.1 28 n = -1 ∧ (vw S.1 S.2.1).2.2.1 34 n = 2) ∨ (ECz (vw S.1 S.2.1) S.2.2.2.2.2.2 S.2.2.2.2.2.1 rk (some ((vw S.1 S.2.1).2.2.1 27 n), 0, rk, g, s, e) 0 ((vw S.1 S.2.1).2.1 b 3) ((vw S.1 S.2.1).2.2.1 28 n) ∧ (vw S.1 S.2.1).2.2.1 34 n = 3)) ∧ LNz (vw S.1 S.2.1) S.2.2.2.2.2.2 S.2.2.2.2.2.1 rk (some ((vw S.1 S.2.1).2.2.1 27 n), 39, rk, g, s, e) d ((vw S.1 S.2.1).2.1 b 4) ((vw S.1 S.2.1).2.2.1 29 n)
  rw [t33, t28, t34, t27, t29, p0, p5, p3, p4, i14]
  exact h
theorem LFz.k32 {cc : Bool} (hO : OWx cc S b fi fp) (hT : OWt S n ft) (h2 : fi 2 = ft 27) (h26 : ft 26 = i_ 32) (h : (fp 0) = some (D.1.1.1 27) ∧ (fi 8) = -1 ∧ (fi 14) = 0 ∧ (fp 3) = none ∧ (ft 28) = -1 ∧ (ft 34) = 0 ∧ LNz (vw S.1 S.2.1) S.2.2.2.2.2.2 S.2.2.2.2.2.1 rk (some ((ft 27)), 39, rk, g, s, e) d ((fp 4)) ((ft 29))) (hg : ft 27 = i_ (g s) := by first | rfl | assumption) : LFz D (vw S.1 S.2.1) S.2.2.2.2.2.2 T2 S.2.2.2.2.2.1 (rk, g, s, e) d b n := by
  have t28 : (vw S.1 S.2.1).2.2.1 28 n = ft 28 := hT.2 28 rfl
  have t34 : (vw S.1 S.2.1).2.2.1 34 n = ft 34 := hT.2 34 rfl
  have t27 : (vw S.1 S.2.1).2.2.1 27 n = ft 27 := hT.2 27 rfl
  have t29 : (vw S.1 S.2.1).2.2.1 29 n = ft 29 := hT.2 29 rfl
  have p0 : (vw S.1 S.2.1).2.1 b 0 = fp 0 := hO.2.2 0 rfl
  have p3 : (vw S.1 S.2.1).2.1 b 3 = fp 3 := hO.2.2 3 rfl
  have p4 : (vw S.1 S.2.1).2.1 b 4 = fp 4 := hO.2.2 4 rfl
  have i8 : (vw S.1 S.2.1).1 b 8 = fi 8 := hO.2.1 8 rfl
  have i14 : (vw S.1 S.2.1).1 b 14 = fi 14 := hO.2.1 14 rfl
  refine ⟨⟨(hO.2.1 2 rfl).trans (h2.trans (hT.2 27 rfl).symm), (hT.2 27 rfl).trans hg⟩, 32, (hT.2 26 rfl).trans h26, by decide, fun e => absurd e (by decide), ?_⟩
  show (vw S.1 S.2.1).2.1 b 0 = some (D.1.1.1 27) ∧ (vw S.1 S.2.1).1 b 8 = -1 ∧ (vw S.1 S.2.1).1 b 14 = 0 ∧ (vw S.1 S.2.1).2.1 b 3 = none ∧ (vw S.1 S.2.1).2.2.1 28 n = -1 ∧ (vw S.1 S.2.1).2.2.1 34 n = 0 ∧ LNz (vw S.1 S.2.1) S.2.2.2.2.2.2 S.2.2.2.2.2.1 rk (some ((vw S.1 S.2.1).2.2.1 27 n), 39, rk, g, s, e) d ((vw S.1 S.2.1).2.1 b 4) ((vw S.1 S.2.1).2.2.1 29 n)
  rw [t28, t34, t27, t29, p0, p3, p4, i8, i14]
  exact h
theorem LFz.k33 {cc : Bool} (hO : OWx cc S b fi fp) (hT : OWt S n ft) (h2 : fi 2 = ft 27) (h26 : ft 26 = i_ 33) (h : d = 1 ∧ (fp 0) = some (D.1.1.1 28) ∧ nmr D ((fi 9)) ((ft 30)) ∧ ECz (vw S.1 S.2.1) S.2.2.2.2.2.2 S.2.2.2.2.2.1 rk (some ((ft 27)), 0, rk, g, s, e) 0 ((fp 3)) ((ft 28)) ∧ tyr ((fi 8)) ((ft 33)) ∧ ∃ o : Bool, (fi 13) = bI o ∧ (ft 34) = i_ ((if o then 1 else 0) + 4)) (hg : ft 27 = i_ (g s) := by first | rfl | assumption) : LFz D (vw S.1 S.2.1) S.2.2.2.2.2.2 T2 S.2.2.2.2.2.1 (rk, g, s, e) d b n := by
  have t30 : (vw S.1 S.2.1).2.2.1 30 n = ft 30 := hT.2 30 rfl
  have t27 : (vw S.1 S.2.1).2.2.1 27 n = ft 27 := hT.2 27 rfl
  have t28 : (vw S.1 S.2.1).2.2.1 28 n = ft 28 := hT.2 28 rfl
  have t33 : (vw S.1 S.2.1).2.2.1 33 n = ft 33 := hT.2 33 rfl
  have t34 : (vw S.1 S.2.1).2.2.1 34 n = ft 34 := hT.2 34 rfl
  have p0 : (vw S.1 S.2.1).2.1 b 0 = fp 0 := hO.2.2 0 rfl
  have p3 : (vw S.1 S.2.1).2.1 b 3 = fp 3 := hO.2.2 3 rfl
  have i9 : (vw S.1 S.2.1).1 b 9 = fi 9 := hO.2.1 9 rfl
  have i8 : (vw S.1 S.2.1).1 b 8 = fi 8 := hO.2.1 8 rfl
  have i13 : (vw S.1 S.2.1).1 b 13 = fi 13 := hO.2.1 13 rfl
  refine ⟨⟨(hO.2.1 2 rfl).trans (h2.trans (hT.2 27 rfl).symm), (hT.2 27 rfl).trans hg⟩, 33, (hT.2 26 rfl).trans h26, by decide, fun e => absurd e (by decide), ?_⟩
  show d = 1 ∧ (vw S.1 S.2.1).2.1 b 0 = some (D.1.1.1 28) ∧ nmr D ((vw S.1 S.2.1).1 b 9) ((vw S.1 S.2.1).2.2.1 30 n) ∧ ECz (vw S.1 S.2.1) S.2.2.2.2.2.2 S.2.2.2.2.2.1 rk (some ((vw S.1 S.2.1).2.2.1 27 n), 0, rk, g, s, e) 0 ((vw S.1 S.2.1).2.1 b 3) ((vw S.1 S.2.1).2.2.1 28 n) ∧ tyr ((vw S.1 S.2.1).1 b 8) ((vw S.1 S.2.1).2.2.1 33 n) ∧ ∃ o : Bool, (vw S.1 S.2.1).1 b 13 = bI o ∧ (vw S.1 S.2.1).2.2.1 34 n = i_ ((if o then 1 else 0) + 4)
  rw [t30, t27, t28, t33, t34, p0, p3, i9, i8, i13]
  exact h
theorem LFz.k34 {cc : Bool} (hO : OWx cc S b fi fp) (hT : OWt S n ft) (h2 : fi 2 = ft 27) (h26 : ft 26 = i_ 34) (h : d = 1 ∧ (fp 0) = some (D.1.1.1 25) ∧ nmr D ((fi 9)) ((ft 30)) ∧ EEz (vw S.1 S.2.1) S.2.2.2.2.2.2 S.2.2.2.2.2.1 rk (some ((ft 27)), 0, rk, g, s, e) ((fp 3)) ((ft 28)) ∧ KSP D (vw S.1 S.2.1) S.2.2.2.2.2.1 ((fi 8)) ((fp 5)) ((fi 13)) ((fi 14)) 0 ((ft 33)) ((ft 34))) (hg : ft 27 = i_ (g s) := by first | rfl | assumption) : LFz D (vw S.1 S.2.1) S.2.2.2.2.2.2 T2 S.2.2.2.2.2.1 (rk, g, s, e) d b n := by
  have t30 : (vw S.1 S.2.1).2.2.1 30 n = ft 30 := hT.2 30 rfl
  have t27 : (vw S.1 S.2.1).2.2.1 27 n = ft 27 := hT.2 27 rfl
  have t28 : (vw S.1 S.2.1).2.2.1 28 n = ft 28 := hT.2 28 rfl
  have t33 : (vw S.1 S.2.1).2.2.1 33 n = ft 33 := hT.2 33 rfl
  have t34 : (vw S.1 S.2.1).2.2.1 34 n = ft 34 := hT.2 34 rfl
  have p0 : (vw S.1 S.2.1).2.1 b 0 = fp 0 := hO.2.2 0 rfl
  have p3 : (vw S.1 S.2.1).2.1 b 3 = fp 3 := hO.2.2 3 rfl
  have p5 : (vw S.1 S.2.1).2.1 b 5 = fp 5 := hO.2.2 5 rfl
  have i9 : (vw S.1 S.2.1).1 b 9 = fi 9 := hO.2.1 9 rfl
  have i8 : (vw S.1 S.2.1).1 b 8 = fi 8 := hO.2.1 8 rfl
  have i13 : (vw S.1 S.2.1).1 b 13 = fi 13 := hO.2.1 13 rfl
  have i14 : (vw S.1 S.2.1).1 b 14 = fi 14 := hO.2.1 14 rfl
  refine ⟨⟨(hO.2.1 2 rfl).trans (h2.trans (hT.2 27 rfl).symm), (hT.2 27 rfl).trans hg⟩, 34, (hT.2 26 rfl).trans h26, by decide, fun e => absurd e (by decide), ?_⟩
  show d = 1 ∧ (vw S.1 S.2.1).2.1 b 0 = some (D.1.1.1 25) ∧ nmr D ((vw S.1 S.2.1).1 b 9) ((vw S.1 S.2.1).2.2.1 30 n) ∧ EEz (vw S.1 S.2.1) S.2.2.2.2.2.2 S.2.2.2.2.2.1 rk (some ((vw S.1 S.2.1).2.2.1 27 n), 0, rk, g, s, e) ((vw S.1 S.2.1).2.1 b 3) ((vw S.1 S.2.1).2.2.1 28 n) ∧ KSP D (vw S.1 S.2.1) S.2.2.2.2.2.1 ((vw S.1 S.2.1).1 b 8) ((vw S.1 S.2.1).2.1 b 5) ((vw S.1 S.2.1).1 b 13) ((vw S.1 S.2.1).1 b 14) 0 ((vw S.1 S.2.1).2.2.1 33 n) ((vw S.1 S.2.1).2.2.1 34 n)
  rw [t30, t27, t28, t33, t34, p0, p3, p5, i9, i8, i13, i14]
  exact h
theorem LFz.k35 {cc : Bool} (hO : OWx cc S b fi fp) (hT : OWt S n ft) (h2 : fi 2 = ft 27) (h26 : ft 26 = i_ 35) (h : d = 1 ∧ (fp 0) = some (D.1.1.1 29) ∧ nmr D ((fi 9)) ((ft 30)) ∧ SK1z (vw S.1 S.2.1) S.2.2.2.2.2.2 S.2.2.2.2.2.1 rk (some ((ft 27)), 40, rk, g, s, e) 0 40 ((fp 4)) ((ft 29))) (hg : ft 27 = i_ (g s) := by first | rfl | assumption) : LFz D (vw S.1 S.2.1) S.2.2.2.2.2.2 T2 S.2.2.2.2.2.1 (rk, g, s, e) d b n := by
  have t30 : (vw S.1 S.2.1).2.2.1 30 n = ft 30 := hT.2 30 rfl
  have t27 : (vw S.1 S.2.1).2.2.1 27 n = ft 27 := hT.2 27 rfl
  have t29 : (vw S.1 S.2.1).2.2.1 29 n = ft 29 := hT.2 29 rfl
  have p0 : (vw S.1 S.2.1).2.1 b 0 = fp 0 := hO.2.2 0 rfl
  have p4 : (vw S.1 S.2.1).2.1 b 4 = fp 4 := hO.2.2 4 rfl
  have i9 : (vw S.1 S.2.1).1 b 9 = fi 9 := hO.2.1 9 rfl
  refine ⟨⟨(hO.2.1 2 rfl).trans (h2.trans (hT.2 27 rfl).symm), (hT.2 27 rfl).trans hg⟩, 35, (hT.2 26 rfl).trans h26, by decide, fun e => absurd e (by decide), ?_⟩
  show d = 1 ∧ (vw S.1 S.2.1).2.1 b 0 = some (D.1.1.1 29) ∧ nmr D ((vw S.1 S.2.1).1 b 9) ((vw S.1 S.2.1).2.2.1 30 n) ∧ SK1z (vw S.1 S.2.1) S.2.2.2.2.2.2 S.2.2.2.2.2.1 rk (some ((vw S.1 S.2.1).2.2.1 27 n), 40, rk, g, s, e) 0 40 ((vw S.1 S.2.1).2.1 b 4) ((vw S.1 S.2.1).2.2.1 29 n)
  rw [t30, t27, t29, p0, p4, i9]
  exact h
theorem LFz.k36 {cc : Bool} (hO : OWx cc S b fi fp) (hT : OWt S n ft) (h2 : fi 2 = ft 27) (h26 : ft 26 = i_ 36) (h : d = 1 ∧ (fp 0) = some (D.1.1.1 31) ∧ nmr D ((fi 9)) ((ft 30)) ∧ SK1z (vw S.1 S.2.1) S.2.2.2.2.2.2 S.2.2.2.2.2.1 rk (none, 41, rk, g, s, e) 0 41 ((fp 4)) ((ft 29))) (hg : ft 27 = i_ (g s) := by first | rfl | assumption) : LFz D (vw S.1 S.2.1) S.2.2.2.2.2.2 T2 S.2.2.2.2.2.1 (rk, g, s, e) d b n := by
  have t30 : (vw S.1 S.2.1).2.2.1 30 n = ft 30 := hT.2 30 rfl
  have t29 : (vw S.1 S.2.1).2.2.1 29 n = ft 29 := hT.2 29 rfl
  have p0 : (vw S.1 S.2.1).2.1 b 0 = fp 0 := hO.2.2 0 rfl
  have p4 : (vw S.1 S.2.1).2.1 b 4 = fp 4 := hO.2.2 4 rfl
  have i9 : (vw S.1 S.2.1).1 b 9 = fi 9 := hO.2.1 9 rfl
  refine ⟨⟨(hO.2.1 2 rfl).trans (h2.trans (hT.2 27 rfl).symm), (hT.2 27 rfl).trans hg⟩, 36, (hT.2 26 rfl).trans h26, by decide, fun e => absurd e (by decide), ?_⟩
  show d = 1 ∧ (vw S.1 S.2.1).2.1 b 0 = some (D.1.1.1 31) ∧ nmr D ((vw S.1 S.2.1).1 b 9) ((vw S.1 S.2.1).2.2.1 30 n) ∧ SK1z (vw S.1 S.2.1) S.2.2.2.2.2.2 S.2.2.2.2.2.1 rk (none, 41, rk, g, s, e) 0 41 ((vw S.1 S.2.1).2.1 b 4) ((vw S.1 S.2.1).2.2.1 29 n)
  rw [t30, t29, p0, p4, i9]
  exact h
theorem LFz.k37 {cc : Bool} (hO : OWx cc S b fi fp) (hT : OWt S n ft) (h2 : fi 2 = ft 27) (h26 : ft 26 = i_ 37) (h : (fp 0) = some (D.1.1.1 33) ∧ nmr D ((fi 9)) ((ft 30)) ∧ SKz (vw S.1 S.2.1) S.2.2.2.2.2.2 S.2.2.2.2.2.1 rk (some ((ft 27)), 42, rk, g, s, e) 0 42 ((fp 3)) ((ft 28)) ∧ ∃ d2, d = 1 + d2 ∧ ECz (vw S.1 S.2.1) S.2.2.2.2.2.2 S.2.2.2.2.2.1 rk (none, 1, rk, g, s, e) d2 ((fp 4)) ((ft 29))) (hg : ft 27 = i_ (g s) := by first | rfl | assumption) : LFz D (vw S.1 S.2.1) S.2.2.2.2.2.2 T2 S.2.2.2.2.2.1 (rk, g, s, e) d b n := by
  have t30 : (vw S.1 S.2.1).2.2.1 30 n = ft 30 := hT.2 30 rfl
  have t27 : (vw S.1 S.2.1).2.2.1 27 n = ft 27 := hT.2 27 rfl
  have t28 : (vw S.1 S.2.1).2.2.1 28 n = ft 28 := hT.2 28 rfl
  have t29 : (vw S.1 S.2.1).2.2.1 29 n = ft 29 := hT.2 29 rfl
  have p0 : (vw S.1 S.2.1).2.1 b 0 = fp 0 := hO.2.2 0 rfl
  have p3 : (vw S.1 S.2.1).2.1 b 3 = fp 3 := hO.2.2 3 rfl
  have p4 : (vw S.1 S.2.1).2.1 b 4 = fp 4 := hO.2.2 4 rfl
  have i9 : (vw S.1 S.2.1).1 b 9 = fi 9 := hO.2.1 9 rfl
  refine ⟨⟨(hO.2.1 2 rfl).trans (h2.trans (hT.2 27 rfl).symm), (hT.2 27 rfl).trans hg⟩, 37, (hT.2 26 rfl).trans h26, by decide, fun e => absurd e (by decide), ?_⟩
  show (vw S.1 S.2.1).2.1 b 0 = some (D.1.1.1 33) ∧ nmr D ((vw S.1 S.2.1).1 b 9) ((vw S.1 S.2.1).2.2.1 30 n) ∧ SKz (vw S.1 S.2.1) S.2.2.2.2.2.2 S.2.2.2.2.2.1 rk (some ((vw S.1 S.2.1).2.2.1 27 n), 42, rk, g, s, e) 0 42 ((vw S.1 S.2.1).2.1 b 3) ((vw S.1 S.2.1).2.2.1 28 n) ∧ ∃ d2, d = 1 + d2 ∧ ECz (vw S.1 S.2.1) S.2.2.2.2.2.2 S.2.2.2.2.2.1 rk (none, 1, rk, g, s, e) d2 ((vw S.1 S.2.1).2.1 b 4) ((vw S.1 S.2.1).2.2.1 29 n)
  rw [t30, t27, t28, t29, p0, p3, p4, i9]
  exact h
theorem LFz.k39 {cc : Bool} (hO : OWx cc S b fi fp) (hT : OWt S n ft) (h2 : fi 2 = ft 27) (h26 : ft 26 = i_ 39) (h : d = 1 ∧ (fp 0) = some (D.1.1.1 13) ∧ nmr D ((fi 9)) ((ft 30))) (hg : ft 27 = i_ (g s) := by first | rfl | assumption) : LFz D (vw S.1 S.2.1) S.2.2.2.2.2.2 T2 S.2.2.2.2.2.1 (rk, g, s, e) d b n := by
  have t30 : (vw S.1 S.2.1).2.2.1 30 n = ft 30 := hT.2 30 rfl
  have p0 : (vw S.1 S.2.1).2.1 b 0 = fp 0 := hO.2.2 0 rfl
  have i9 : (vw S.1 S.2.1).1 b 9 = fi 9 := hO.2.1 9 rfl
  refine ⟨⟨(hO.2.1 2 rfl).trans (h2.trans (hT.2 27 rfl).symm), (hT.2 27 rfl).trans hg⟩, 39, (hT.2 26 rfl).trans h26, by decide, fun e => absurd e (by decide), ?_⟩
  show d = 1 ∧ (vw S.1 S.2.1).2.1 b 0 = some (D.1.1.1 13) ∧ nmr D ((vw S.1 S.2.1).1 b 9) ((vw S.1 S.2.1).2.2.1 30 n)
  rw [t30, p0, i9]
  exact h
theorem LFz.k40 {cc : Bool} (hO : OWx cc S b fi fp) (hT : OWt S n ft) (h2 : fi 2 = ft 27) (h26 : ft 26 = i_ 40) (h : d = 0 ∧ (fp 0) = some (D.1.1.1 30) ∧ tyr ((fi 8)) ((ft 33)) ∧ (((fp 3) = none ∧ (ft 28) = -1 ∧ (ft 34) = 0) ∨ (ECz (vw S.1 S.2.1) S.2.2.2.2.2.2 S.2.2.2.2.2.1 rk (some ((ft 27)), 0, rk, g, s, e) 0 ((fp 3)) ((ft 28)) ∧ (ft 34) = 1))) (hg : ft 27 = i_ (g s) := by first | rfl | assumption) : LFz D (vw S.1 S.2.1) S.2.2.2.2.2.2 T2 S.2.2.2.2.2.1 (rk, g, s, e) d b n := by
  have t33 : (vw S.1 S.2.1).2.2.1 33 n = ft 33 := hT.2 33 rfl
  have t28 : (vw S.1 S.2.1).2.2.1 28 n = ft 28 := hT.2 28 rfl
  have t34 : (vw S.1 S.2.1).2.2.1 34 n = ft 34 := hT.2 34 rfl
  have t27 : (vw S.1 S.2.1).2.2.1 27 n = ft 27 := hT.2 27 rfl
  have p0 : (vw S.1 S.2.1).2.1 b 0 = fp 0 := hO.2.2 0 rfl
  have p3 : (vw S.1 S.2.1).2.1 b 3 = fp 3 := hO.2.2 3 rfl
  have i8 : (vw S.1 S.2.1).1 b 8 = fi 8 := hO.2.1 8 rfl
  refine ⟨⟨(hO.2.1 2 rfl).trans (h2.trans (hT.2 27 rfl).symm), (hT.2 27 rfl).trans hg⟩, 40, (hT.2 26 rfl).trans h26, by decide, fun e => absurd e (by decide), ?_⟩
  show d = 0 ∧ (vw S.1 S.2.1).2.1 b 0 = some (D.1.1.1 30) ∧ tyr ((vw S.1 S.2.1).1 b 8) ((vw S.1 S.2.1).2.2.1 33 n) ∧ (((vw S.1 S.2.1).2.1 b 3 = none ∧ (vw S.1 S.2.1).2.2.1 28 n = -1 ∧ (vw S.1 S.2.1).2.2.1 34 n = 0) ∨ (ECz (vw S.1 S.2.1) S.2.2.2.2.2.2 S.2.2.2.2.2.1 rk (some ((vw S.1 S.2.1).2.2.1 27 n), 0, rk, g, s, e) 0 ((vw S.1 S.2.1).2.1 b 3) ((vw S.1 S.2.1).2.2.1 28 n) ∧ (vw S.1 S.2.1).2.2.1 34 n = 1))
  rw [t33, t28, t34, t27, p0, p3, i8]
  exact h
theorem LFz.k41 {cc : Bool} (hO : OWx cc S b fi fp) (hT : OWt S n ft) (h2 : fi 2 = ft 27) (h26 : ft 26 = i_ 41) (h : d = 0 ∧ (fp 0) = some (D.1.1.1 32) ∧ nmr D ((fi 9)) ((ft 30)) ∧ SKz (vw S.1 S.2.1) S.2.2.2.2.2.2 S.2.2.2.2.2.1 rk (some ((ft 27)), 40, rk, g, s, e) 0 40 ((fp 4)) ((ft 29))) (hg : ft 27 = i_ (g s) := by first | rfl | assumption) : LFz D (vw S.1 S.2.1) S.2.2.2.2.2.2 T2 S.2.2.2.2.2.1 (rk, g, s, e) d b n := by
  have t30 : (vw S.1 S.2.1).2.2.1 30 n = ft 30 := hT.2 30 rfl
  have t27 : (vw S.1 S.2.1).2.2.1 27 n = ft 27 := hT.2 27 rfl
  have t29 : (vw S.1 S.2.1).2.2.1 29 n = ft 29 := hT.2 29 rfl
  have p0 : (vw S.1 S.2.1).2.1 b 0 = fp 0 := hO.2.2 0 rfl
  have p4 : (vw S.1 S.2.1).2.1 b 4 = fp 4 := hO.2.2 4 rfl
  have i9 : (vw S.1 S.2.1).1 b 9 = fi 9 := hO.2.1 9 rfl
  refine ⟨⟨(hO.2.1 2 rfl).trans (h2.trans (hT.2 27 rfl).symm), (hT.2 27 rfl).trans hg⟩, 41, (hT.2 26 rfl).trans h26, by decide, fun e => absurd e (by decide), ?_⟩
  show d = 0 ∧ (vw S.1 S.2.1).2.1 b 0 = some (D.1.1.1 32) ∧ nmr D ((vw S.1 S.2.1).1 b 9) ((vw S.1 S.2.1).2.2.1 30 n) ∧ SKz (vw S.1 S.2.1) S.2.2.2.2.2.2 S.2.2.2.2.2.1 rk (some ((vw S.1 S.2.1).2.2.1 27 n), 40, rk, g, s, e) 0 40 ((vw S.1 S.2.1).2.1 b 4) ((vw S.1 S.2.1).2.2.1 29 n)
  rw [t30, t27, t29, p0, p4, i9]
  exact h
theorem LFz.k42 {cc : Bool} (hO : OWx cc S b fi fp) (hT : OWt S n ft) (h2 : fi 2 = ft 27) (h26 : ft 26 = i_ 42) (h : d = 0 ∧ (fp 0) = some (D.1.1.1 12) ∧ nmr D ((fi 9)) ((ft 30)) ∧ KSP D (vw S.1 S.2.1) S.2.2.2.2.2.1 ((fi 8)) ((fp 5)) ((fi 13)) ((fi 14)) ((fi 15)) ((ft 33)) ((ft 34))) (hg : ft 27 = i_ (g s) := by first | rfl | assumption) : LFz D (vw S.1 S.2.1) S.2.2.2.2.2.2 T2 S.2.2.2.2.2.1 (rk, g, s, e) d b n := by
  have t30 : (vw S.1 S.2.1).2.2.1 30 n = ft 30 := hT.2 30 rfl
  have t33 : (vw S.1 S.2.1).2.2.1 33 n = ft 33 := hT.2 33 rfl
  have t34 : (vw S.1 S.2.1).2.2.1 34 n = ft 34 := hT.2 34 rfl
  have p0 : (vw S.1 S.2.1).2.1 b 0 = fp 0 := hO.2.2 0 rfl
  have p5 : (vw S.1 S.2.1).2.1 b 5 = fp 5 := hO.2.2 5 rfl
  have i9 : (vw S.1 S.2.1).1 b 9 = fi 9 := hO.2.1 9 rfl
  have i8 : (vw S.1 S.2.1).1 b 8 = fi 8 := hO.2.1 8 rfl
  have i13 : (vw S.1 S.2.1).1 b 13 = fi 13 := hO.2.1 13 rfl
  have i14 : (vw S.1 S.2.1).1 b 14 = fi 14 := hO.2.1 14 rfl
  have i15 : (vw S.1 S.2.1).1 b 15 = fi 15 := hO.2.1 15 rfl
  refine ⟨⟨(hO.2.1 2 rfl).trans (h2.trans (hT.2 27 rfl).symm), (hT.2 27 rfl).trans hg⟩, 42, (hT.2 26 rfl).trans h26, by decide, fun e => absurd e (by decide), ?_⟩
  show d = 0 ∧ (vw S.1 S.2.1).2.1 b 0 = some (D.1.1.1 12) ∧ nmr D ((vw S.1 S.2.1).1 b 9) ((vw S.1 S.2.1).2.2.1 30 n) ∧ KSP D (vw S.1 S.2.1) S.2.2.2.2.2.1 ((vw S.1 S.2.1).1 b 8) ((vw S.1 S.2.1).2.1 b 5) ((vw S.1 S.2.1).1 b 13) ((vw S.1 S.2.1).1 b 14) ((vw S.1 S.2.1).1 b 15) ((vw S.1 S.2.1).2.2.1 33 n) ((vw S.1 S.2.1).2.2.1 34 n)
  rw [t30, t33, t34, p0, p5, i9, i8, i13, i14, i15]
  exact h
end LFM
