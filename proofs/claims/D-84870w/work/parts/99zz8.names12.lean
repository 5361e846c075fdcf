/-! ===== ROUNDS, part 14: the twin's symbols ===== -/
def ts1 (t : wS) (s u : Nat) (x1 x2 x3 x4 x5 x6 : Int32) : wS := ws_a (ws_a (ws_a (ws_a (ws_a (ws_a (ws_a (ws_a (ws_i t 12 0 44 (i_ s + 1)) 12 0 45 s x1) 12 0 46 s x2) 12 0 47 s x3) 12 0 48 s x4) 12 0 49 s x5) 12 0 50 s x6) 12 0 51 s (i_ u)) 12 0 52 s (w_a t 12 0 61 u)
def ts2 (t : wS) (s u : Nat) (y : Int32) : wS := ws_a (ws_a (ws_a (ws_a (ws_a (ws_a (ws_a t 12 0 61 u (w_a t 12 0 61 u + y)) 12 0 53 s 0) 12 0 54 s (-1)) 12 0 55 s (-1)) 12 0 68 s 0) 12 0 71 s 0) 12 0 95 s 0
def lz (x2 x4 : Int32) : Int32 := if x2 = 1 ∨ x2 = 2 ∨ x2 = 3 ∨ x2 = 9 then (if x4 = -1 then 1 else 2) else 0
/-- the twin's heap behind a new symbol -/
def tsy (t : wS) (s u : Nat) (x1 x2 x3 x4 x5 x6 : Int32) : wS := ts2 (ts1 t s u x1 x2 x3 x4 x5 x6) s u (lz x2 x4)
section TSY
variable {D : pD} {V : pV} {nu : pN} {tn : Nat → Prop} {rt p q n r d j k s u : Nat} {S : nS} {t : wS} {x1 x2 x3 x4 x5 x6 : Int32} {E' : zE} {L' : Nat} {Q : kx_Rs → wS → Prop}
theorem tsy_o (hj : j ≠ s) (h61 : k ≠ 61 ∨ j ≠ u) : w_a (tsy t s u x1 x2 x3 x4 x5 x6) 12 0 k j = w_a t 12 0 k j := by
  rcases h61 with h | h <;> simp [tsy, ts2, ts1, Raa, Rai, hj, h]
/-- other rows -/
theorem tsy_k (h1 : k < 45 ∨ 55 < k) (h2 : k ≠ 61 ∧ k ≠ 68 ∧ k ≠ 71 ∧ k ≠ 95) : w_a (tsy t s u x1 x2 x3 x4 x5 x6) 12 0 k j = w_a t 12 0 k j := by
  simp [tsy, ts2, ts1, Raa, Rai, show k ≠ 45 by omega, show k ≠ 46 by omega, show k ≠ 47 by omega, show k ≠ 48 by omega, show k ≠ 49 by omega, show k ≠ 50 by omega, show k ≠ 51 by omega, show k ≠ 52 by omega, show k ≠ 53 by omega, show k ≠ 54 by omega, show k ≠ 55 by omega, show k ≠ 61 by omega, show k ≠ 68 by omega, show k ≠ 71 by omega, show k ≠ 95 by omega]
theorem tsy_s : (w_a (tsy t s u x1 x2 x3 x4 x5 x6) 12 0 45 s = x1 ∧ w_a (tsy t s u x1 x2 x3 x4 x5 x6) 12 0 46 s = x2 ∧ w_a (tsy t s u x1 x2 x3 x4 x5 x6) 12 0 47 s = x3 ∧ w_a (tsy t s u x1 x2 x3 x4 x5 x6) 12 0 48 s = x4 ∧ w_a (tsy t s u x1 x2 x3 x4 x5 x6) 12 0 49 s = x5 ∧ w_a (tsy t s u x1 x2 x3 x4 x5 x6) 12 0 50 s = x6) ∧ (w_a (tsy t s u x1 x2 x3 x4 x5 x6) 12 0 51 s = i_ u ∧ w_a (tsy t s u x1 x2 x3 x4 x5 x6) 12 0 52 s = w_a t 12 0 61 u ∧ w_a (tsy t s u x1 x2 x3 x4 x5 x6) 12 0 53 s = 0 ∧ w_a (tsy t s u x1 x2 x3 x4 x5 x6) 12 0 54 s = -1 ∧ w_a (tsy t s u x1 x2 x3 x4 x5 x6) 12 0 55 s = -1) := by
  unfold tsy ts2 ts1
  simp only [Raa, Rai]
  simp
theorem tsy_61 : w_a (tsy t s u x1 x2 x3 x4 x5 x6) 12 0 61 u = w_a t 12 0 61 u + lz x2 x4 ∧ ∀ j, j ≠ u → w_a (tsy t s u x1 x2 x3 x4 x5 x6) 12 0 61 j = w_a t 12 0 61 j := by
  refine ⟨?_, fun j hj => ?_⟩
  · unfold tsy ts2 ts1
    simp only [Raa, Rai]
    simp
  · unfold tsy ts2 ts1
    simp only [Raa, Rai]
    simp [hj]
theorem tsy_i (hk : k ≠ 44) : w_i (tsy t s u x1 x2 x3 x4 x5 x6) 12 0 k = w_i t 12 0 k := by
  unfold tsy ts2 ts1
  simp only [Ria]
  rw [Rii, if_neg (fun z => hk z.1)]
theorem tsy_44 : w_i (tsy t s u x1 x2 x3 x4 x5 x6) 12 0 44 = i_ (s + 1 : Nat) := by
  unfold tsy ts2 ts1
  simp only [Ria]
  rw [Rii, if_pos ⟨rfl, rfl, rfl⟩, i_1, i_add]
  congr 1
theorem tsy_fr : FTn t (tsy t s u x1 x2 x3 x4 x5 x6) := by
  unfold tsy ts2 ts1
  exact (((((((((((((((frm_i (by decide)).tr (frm_a (by decide))).tr (frm_a (by decide))).tr (frm_a (by decide))).tr (frm_a (by decide))).tr (frm_a (by decide))).tr (frm_a (by decide))).tr (frm_a (by decide))).tr (frm_a (by decide))).tr (frm_a (by decide))).tr (frm_a (by decide))).tr (frm_a (by decide))).tr (frm_a (by decide))).tr (frm_a (by decide))).tr (frm_a (by decide))).tr (frm_a (by decide))
/-- the twin makes a symbol -/
theorem t_symbol (hI : IVN D V nu tn rt S) (hsn : S.sn < 6050) (hu : S.u < 6100) (hL : 60 ≤ L') (hq : Q (.inl (some (.int (i_ S.sn)))) (tsy S.t S.sn S.u x1 x2 x3 x4 x5 x6)) : zw E' L' kt_M550 [.ref (w_adr E'.2.1 12 0), .int x1, .int x2, .int x3, .int x4, .int x5, .int x6] S.t Q := by
  have h44 := hI.2.2.1.1.1
  have h62 := hI.2.2.1.2.2.1
  have hT := hI.1.2.1
  have hv : vp_nar .boolean 0 = 0 := rfl
  have i1 : ∀ k, tl61 k = true → kx_inb (i_ S.sn) (w_n S.t 12 0 k) = true := fun k hk => hT.sy hk (by omega)
  have h120 : ∀ (t1 : wS) (y0 : Int32), w_i t1 12 0 62 = i_ S.u → (∀ k, w_n t1 12 0 k = w_n S.t 12 0 k) → (y0 = 0 ∨ y0 = 1) → Q (.inl (some (.int (i_ S.sn)))) (ts2 t1 S.sn S.u (if y0 = 0 then 0 else if x4 = -1 then 1 else 2)) → zb_X13_symbol_p120 E' L' Q x4 (i_ S.sn) y0 t1 := by
    intro t1 y0 g1 g2 g3 g4
    simp only [zb_X13_symbol_p120, zb_X13_symbol_p152, g1, g2, hv, i_nat' (show S.u < 2147483648 by omega), i_nat' (show S.sn < 2147483648 by omega)]
    have iu : kx_inb (i_ S.u) (w_n S.t 12 0 61) = true := hT.sy rfl hu
    refine ⟨iu, ?_⟩
    rcases g3 with e | e <;> subst e
    · rw [if_neg (by decide)]
      rw [if_pos rfl] at g4
      exact ⟨iu, i1 _ rfl, i1 _ rfl, i1 _ rfl, i1 _ rfl, i1 _ rfl, i1 _ rfl, g4⟩
    · rw [if_pos (by decide)]
      rw [if_neg (by decide)] at g4
      by_cases e4 : x4 = -1
      · rw [if_neg (not_not_intro e4)]
        rw [if_pos e4] at g4
        exact ⟨iu, i1 _ rfl, i1 _ rfl, i1 _ rfl, i1 _ rfl, i1 _ rfl, i1 _ rfl, g4⟩
      · rw [if_pos e4]
        rw [if_neg e4] at g4
        exact ⟨iu, i1 _ rfl, i1 _ rfl, i1 _ rfl, i1 _ rfl, i1 _ rfl, i1 _ rfl, g4⟩
  have key : ∀ y0 : Int32, (y0 = 0 ∨ y0 = 1) → (if y0 = 0 then (0 : Int32) else if x4 = -1 then 1 else 2) = lz x2 x4 → zb_X13_symbol_p120 E' L' Q x4 (i_ S.sn) y0 (ts1 S.t S.sn S.u x1 x2 x3 x4 x5 x6) := by
    intro y0 h0 h1
    refine h120 _ y0 ?_ (fun _ => rfl) h0 ?_
    · unfold ts1
      simp only [Ria]
      rw [Rii, if_neg (by decide)]
      exact h62
    · rw [h1]
      exact hq
  refine zt_X13_symbol_p0 (by omega) ?_
  simp only [zb_X13_symbol_p0, zb_X13_symbol_p115, h44, h62, i_nat' (show S.sn < 2147483648 by omega), i_nat' (show S.u < 2147483648 by omega)]
  refine ⟨i1 _ rfl, i1 _ rfl, i1 _ rfl, i1 _ rfl, i1 _ rfl, i1 _ rfl, i1 _ rfl, hT.sy rfl hu, i1 _ rfl, ?_⟩
  unfold lz at key
  by_cases c1 : x2 = 1
  · rw [if_pos c1]
    exact key 1 (.inr rfl) (by simp [c1])
  rw [if_neg c1]
  by_cases c2 : x2 = 2
  · rw [if_pos c2]
    exact key 1 (.inr rfl) (by simp [c2])
  rw [if_neg c2]
  by_cases c3 : x2 = 3
  · rw [if_pos c3]
    exact key 1 (.inr rfl) (by simp [c3])
  rw [if_neg c3]
  by_cases c9 : x2 = 9
  · rw [if_neg (not_not_intro c9)]
    exact key 1 (.inr rfl) (by simp [c9])
  rw [if_pos c9]
  exact key 0 (.inl rfl) (by simp [c1, c2, c3, c9])
/-- the twin makes a name known -/
def tkn (t : wS) (m : Nat) (x : Int32) : wS := ws_i (ws_a t 12 0 57 m x) 12 0 56 (i_ (m + 1 : Nat))
theorem t_know {m : Nat} (hT : TLN t) (hm : m < 6100) (h56 : w_i t 12 0 56 = i_ m) (hL : 40 ≤ L') (hq : Q (.inl none) (tkn t m x1)) : zw E' L' kt_M455 [.ref (w_adr E'.2.1 12 0), .int x1] t Q := by
  refine zt_X13_know_p0 (by omega) ?_
  simp only [zb_X13_know_p0, h56, i_nat' (show m < 2147483648 by omega)]
  refine ⟨hT.sy rfl hm, ?_⟩
  have e : (i_ m : Int32) + 1 = i_ (m + 1 : Nat) := by
    rw [i_1, i_add]
    congr 1
  rw [e]
  exact hq
end TSY
