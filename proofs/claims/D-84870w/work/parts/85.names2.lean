/-! ===== TOKENS, part 2: the table of names of MeetingHouse ===== -/
/-- a name's hash -/
def hsf (h : Int32) (s : List Int) : Int32 := s.foldl (fun h c => h * 31 + i_ c) h
def hsh (s : List Int) : Int32 := ((hsf (i_ s.length) s) ^^^ ((hsf (i_ s.length) s).toUInt32 >>> ((8 : Int32).toUInt32 &&& Int32.toUInt32 31)).toInt32) &&& 255
theorem and255 (x : Int32) : 0 ≤ (x &&& 255).toInt ∧ (x &&& 255).toInt < 256 := by
  have h : (x &&& 255).toBitVec = x.toBitVec &&& 255#32 := rfl
  have h2 : (x.toBitVec &&& 255#32).toNat < 256 := by
    rw [BitVec.toNat_and]
    exact Nat.lt_of_le_of_lt Nat.and_le_right (by decide)
  have h3 : (x &&& 255).toInt = (x.toBitVec &&& 255#32).toInt := rfl
  rw [h3, BitVec.toInt_eq_toNat_of_lt (by omega)]
  omega
theorem hsh_rng (s : List Int) : 0 ≤ (hsh s).toInt ∧ (hsh s).toInt < 256 := and255 _
/-- the latest name ahead of m with a hash -/
def prv (ns : List (List Int)) (h : Int32) : Nat → Int
  | 0 => -1
  | m + 1 => if hsh (ns.getD m []) = h then (m : Int) else prv ns h m
theorem prv_rng {ns : List (List Int)} {h : Int32} : ∀ {m : Nat}, -1 ≤ prv ns h m ∧ prv ns h m < m
  | 0 => by simp [prv]
  | m + 1 => by
    have := prv_rng (ns := ns) (h := h) (m := m)
    unfold prv
    split <;> omega
theorem prv_at {ns : List (List Int)} {h : Int32} : ∀ {m k : Nat}, prv ns h m = (k : Int) → hsh (ns.getD k []) = h ∧ k < m ∧ ∀ j, k < j → j < m → hsh (ns.getD j []) ≠ h
  | 0, k, e => by unfold prv at e; omega
  | m + 1, k, e => by
    unfold prv at e
    split at e
    · rename_i h1
      have : k = m := by omega
      subst this
      exact ⟨h1, by omega, fun j h2 h3 => by omega⟩
    · rename_i h1
      obtain ⟨a, b, c⟩ := prv_at e
      refine ⟨a, by omega, fun j h2 h3 => ?_⟩
      by_cases e2 : j = m
      · rw [e2]; exact h1
      · exact c j h2 (by omega)
theorem prv_no {ns : List (List Int)} {h : Int32} : ∀ {m : Nat}, prv ns h m = -1 → ∀ j, j < m → hsh (ns.getD j []) ≠ h
  | 0, e, j, hj => by omega
  | m + 1, e, j, hj => by
    unfold prv at e
    split at e
    · omega
    · rename_i h1
      by_cases e2 : j = m
      · rw [e2]; exact h1
      · exact prv_no e j (by omega)
theorem prv_cut {ns ms : List (List Int)} {h : Int32} : ∀ {m : Nat}, m ≤ ns.length → prv (ns ++ ms) h m = prv ns h m
  | 0, _ => rfl
  | m + 1, hm => by
    unfold prv
    rw [prv_cut (by omega)]
    have : (ns ++ ms).getD m [] = ns.getD m [] := by
      rw [List.getD_eq_getElem?_getD, List.getD_eq_getElem?_getD, List.getElem?_append_left (by omega)]
    rw [this]
/-- names: bytes without a sign -/
def asc (s : List Int) : Prop := ∀ c ∈ s, 0 ≤ c ∧ c < 128
/-- the table of names says so -/
def NT2 (w : wS) (ns : List (List Int)) (lm : Nat) : Prop := (w_i w 1 0 17 = i_ ns.length ∧ w_i w 1 0 18 = i_ lm) ∧ (ns.length ≤ 1400 ∧ lm ≤ 4000) ∧ (w_n w 1 0 12 = 3064 ∧ w_n w 1 0 13 = 3064 ∧ w_n w 1 0 14 = 3064 ∧ w_n w 1 0 15 = 256 ∧ w_n w 1 0 16 = 6400) ∧ (∀ k, k < ns.length → ∃ p : Nat, w_a w 1 0 12 k = i_ p ∧ p + (ns.getD k []).length ≤ lm ∧ w_a w 1 0 13 k = i_ (ns.getD k []).length ∧ ∀ j, j < (ns.getD k []).length → w_a w 1 0 16 (p + j) = i_ ((ns.getD k []).getD j 0)) ∧ (∀ h : Int32, 0 ≤ h.toInt ∧ h.toInt < 256 → w_a w 1 0 15 h.toNatClampNeg = i_ (prv ns h ns.length)) ∧ (∀ k, k < ns.length → w_a w 1 0 14 k = i_ (prv ns (hsh (ns.getD k [])) k)) ∧ ns.Nodup ∧ ∀ s ∈ ns, asc s ∧ s.length ≤ 16
/-- a row of bytes holds a name -/
def rowN (w : wS) (c o k : Nat) (f : Nat) (s : List Int) : Prop := f + s.length ≤ w_n w c o k ∧ w_n w c o k ≤ 6000 ∧ ∀ j, j < s.length → w_a w c o k (f + j) = i_ (s.getD j 0)
theorem i_nat' {a : Nat} (h : a < 2147483648) : (i_ a).toNatClampNeg = a := by
  rw [i_nat (by omega)]
  rfl
theorem i_nn {a : Nat} (h : a < 2147483648) : ¬ i_ a < 0 := by
  intro e
  rw [i_0] at e
  have := (i_lt (by omega) (by omega)).mp e
  omega
theorem fits_b0 : ∀ a : Nat, a < 128 → fits .byte (.int (i_ a)) = true := by decide +kernel
theorem fits_b {a : Int} (h : 0 ≤ a ∧ a < 128) : fits .byte (.int (i_ a)) = true := by
  obtain ⟨k, rfl⟩ := Int.eq_ofNat_of_zero_le h.1
  exact fits_b0 k (by omega)
theorem i_inb' {a n : Nat} (h : a < 2147483648) (hn : a < n) : kx_inb (i_ a) n = true := i_inb (by omega) (by omega)
theorem hsf_take {s : List Int} {h : Int32} {j : Nat} (hj : j < s.length) : hsf h (s.take (j + 1)) = hsf h (s.take j) * 31 + i_ (s.getD j 0) := by
  unfold hsf
  rw [List.take_add_one, List.getElem?_eq_getElem hj, List.foldl_append, List.getD_eq_getElem?_getD, List.getElem?_eq_getElem hj]
  rfl
theorem asc_getD {s : List Int} (h : asc s) (j : Nat) : 0 ≤ s.getD j 0 ∧ s.getD j 0 < 128 := by
  rw [List.getD_eq_getElem?_getD]
  cases e : s[j]? with
  | none => exact ⟨by decide, by decide⟩
  | some v => exact h v (List.mem_of_getElem? e)
theorem getD_mem {ns : List (List Int)} {m : Nat} (hm : m < ns.length) : ns.getD m [] ∈ ns := by
  rw [List.getD_eq_getElem?_getD, List.getElem?_eq_getElem hm]
  exact List.getElem_mem hm
theorem asc_mem {w : wS} {ns : List (List Int)} {lm m : Nat} (hN : NT2 w ns lm) (hm : m < ns.length) : asc (ns.getD m []) := (hN.2.2.2.2.2.2.2 _ (getD_mem hm)).1
theorem getD_inj {ns : List (List Int)} (h : ns.Nodup) {i j : Nat} (hi : i < ns.length) (hj : j < ns.length) (e : ns.getD i [] = ns.getD j []) : i = j := by
  rw [List.getD_eq_getElem?_getD, List.getD_eq_getElem?_getD, List.getElem?_eq_getElem hi, List.getElem?_eq_getElem hj] at e
  have hp := List.pairwise_iff_getElem.mp h
  rcases Nat.lt_trichotomy i j with h1 | h1 | h1
  · exact absurd e (hp i j hi hj h1)
  · exact h1
  · exact absurd e.symm (hp j i hj hi h1)
theorem l_ext {s t : List Int} (hl : t.length = s.length) (h : ∀ i, i < s.length → t.getD i 0 = s.getD i 0) : t = s := by
  apply List.ext_getElem?
  intro i
  by_cases hi : i < s.length
  · have := h i hi
    rw [List.getD_eq_getElem?_getD, List.getD_eq_getElem?_getD, List.getElem?_eq_getElem hi, List.getElem?_eq_getElem (by omega)] at this
    rw [List.getElem?_eq_getElem hi, List.getElem?_eq_getElem (by omega)]
    exact congrArg some this
  · rw [List.getElem?_eq_none (by omega), List.getElem?_eq_none (by omega)]
section NM
variable {E : zE} {L : Nat} {w : wS} {Q : kx_Rs → wS → Prop} {ns : List (List Int)} {lm c o k f : Nat} {s : List Int}
/-- bytes are compared -/
theorem c2_name_cmp (hL : 60 ≤ L) (ho : w_own w wG E.2.1 1 c o k) (hN : NT2 w ns lm) (hr : rowN w c o k f s) (hf : f ≤ 6000) (hs : asc s) {m : Nat} (hm : m < ns.length) (hlen : (ns.getD m []).length = s.length) (x4 : Int32) (h1 : ns.getD m [] = s → Q (.inl (some (.int (i_ m)))) w) (h2 : ns.getD m [] ≠ s → zL_X2_name_p55 E L Q c o k (i_ f) (i_ s.length) x4 (w_a w 1 0 14 m) w) : ∀ d j, j + d = s.length → (∀ i, i < j → (ns.getD m []).getD i 0 = s.getD i 0) → zL_X2_name_p82 E L Q c o k (i_ f) (i_ s.length) x4 (i_ m) 1 (i_ j) w := by
  have hs16 : (ns.getD m []).length ≤ 16 := by
    have hmem : ns.getD m [] ∈ ns := by
      rw [List.getD_eq_getElem?_getD, List.getElem?_eq_getElem hm]
      exact List.getElem_mem hm
    exact (hN.2.2.2.2.2.2.2 _ hmem).2
  have hb := hN.2.1
  obtain ⟨n1, n2, n3, n4, n5⟩ := hN.2.2.1
  intro d
  induction d with
  | zero =>
    intro j hj hall
    refine zt_X2_name_p82 (by omega) ho ?_
    simp only [zb_X2_name_p0, zb_X2_name_p77, zb_X2_name_p122, zb_X2_name_p130, zb_X2_name_p82]
    rw [if_neg (by decide), if_pos ((i_le (by omega) (by omega)).mpr (by omega)), if_neg (by decide)]
    exact h1 (l_ext hlen (fun i hi => hall i (by omega)))
  | succ d ih =>
    intro j hj hall
    obtain ⟨p, e1, e2, e3, e4⟩ := hN.2.2.2.1 m hm
    refine zt_X2_name_p82 (by omega) ho ?_
    simp only [zb_X2_name_p82]
    rw [if_neg (by decide), if_neg (fun q => by have := (i_le (by omega) (by omega)).mp q; omega)]
    rw [i_nat' (show m < 2147483648 by omega), e1, i_add, i_add]
    have g1 : (p : Int) + (j : Int) = ((p + j : Nat) : Int) := by omega
    have g2 : (f : Int) + (j : Int) = ((f + j : Nat) : Int) := by omega
    rw [g1, g2, i_nat' (show p + j < 2147483648 by omega), i_nat' (show f + j < 2147483648 by omega)]
    refine ⟨i_inb' (by omega) (by omega), i_inb' (by omega) (by omega), i_inb' (by omega) (by have := hr.1; omega), ?_⟩
    rw [e4 j (by omega), hr.2.2 j (by omega)]
    have step : (j : Int) + 1 = ((j + 1 : Nat) : Int) := by omega
    by_cases hq : i_ ((ns.getD m []).getD j 0) = i_ (s.getD j 0)
    · rw [if_neg (fun q => q hq)]
      simp only [zb_X2_name_p122]
      rw [i_1, i_add, step]
      refine ih (j + 1) (by omega) (fun i hi => ?_)
      by_cases e : i = j
      · rw [e]
        have a1 := asc_getD (asc_mem hN hm) j
        have a2 := asc_getD hs j
        exact (i_eq (by omega) (by omega)).mp hq
      · exact hall i (by omega)
    · rw [if_pos hq]
      simp only [zb_X2_name_p122]
      refine zt_X2_name_p82 (by omega) ho ?_
      simp only [zb_X2_name_p82, zb_X2_name_p130]
      rw [if_pos trivial, if_pos trivial]
      refine ⟨i_inb' (by omega) (by omega), ?_⟩
      rw [i_nat' (show m < 2147483648 by omega)]
      refine h2 (fun e => hq ?_)
      rw [e]
/-- the state with a name more -/
def nm_add (w : wS) (c o k f n lm len : Nat) (h pv : Int32) : wS := ws_i (ws_i (ws_A (ws_a (ws_a (ws_a (ws_a w 1 0 12 n (i_ lm)) 1 0 13 n (i_ len)) 1 0 14 n pv) 1 0 15 h.toNatClampNeg (i_ n)) 1 0 16 (va_cpy (w_a w c o k) (w_a w 1 0 16) f lm len)) 1 0 18 (i_ lm + i_ len)) 1 0 17 (i_ n + 1)
theorem c2_add (hL : 60 ≤ L) (ho : w_own w wG E.2.1 1 c o k) (hN : NT2 w ns lm) (hr : rowN w c o k f s) (hf : f ≤ 6000) (hs : asc s) (hs16 : s.length ≤ 16) (hroom : ns.length < 1400 ∧ lm + s.length ≤ 4000) (hck : (c, o, k) = (1, 0, 0) ∨ (c, o, k) = (1, 0, 19)) (h2 : s ∉ ns → Q (.inl (some (.int (i_ ns.length)))) (nm_add w c o k f ns.length lm s.length (hsh s) (i_ (prv ns (hsh s) ns.length)))) {m : Nat} (hp : prv ns (hsh s) m = -1) (hall : ∀ j, j < ns.length → ns.getD j [] ≠ s) : zL_X2_name_p55 E L Q c o k (i_ f) (i_ s.length) (hsh s) (i_ (prv ns (hsh s) m)) w := by
  have hb := hN.2.1
  obtain ⟨n1, n2, n3, n4, n5⟩ := hN.2.2.1
  have hh := hsh_rng s
  have hhi : kx_inb (hsh s) 256 = true := by
    rw [i_of (hsh s)]
    exact i_inb (by omega) (by omega)
  have hnot : s ∉ ns := by
    intro hmem
    obtain ⟨j, hj, e⟩ := List.getElem_of_mem hmem
    refine hall j hj ?_
    rw [List.getD_eq_getElem?_getD, List.getElem?_eq_getElem hj, e]
    rfl
  have hrow : ∀ (j1 : Nat) (v1 v2 v3 v4 : Int32) (j2 : Nat), w_a (ws_a (ws_a (ws_a (ws_a w 1 0 12 j1 v1) 1 0 13 j1 v2) 1 0 14 j1 v3) 1 0 15 j2 v4) c o k = w_a w c o k := by
    intro j1 v1 v2 v3 v4 j2
    funext j'
    rcases hck with e | e
    · cases e
      simp only [Raa]
      simp
    · cases e
      simp only [Raa]
      simp
  have hlet : ∀ (j1 : Nat) (v1 v2 v3 v4 : Int32) (j2 : Nat), w_a (ws_a (ws_a (ws_a (ws_a w 1 0 12 j1 v1) 1 0 13 j1 v2) 1 0 14 j1 v3) 1 0 15 j2 v4) 1 0 16 = w_a w 1 0 16 := by
    intro j1 v1 v2 v3 v4 j2
    funext j'
    simp only [Raa]
    simp
  rw [hp]
  refine zt_X2_name_p55 (by omega) ho ?_
  simp only [zb_X2_name_p55]
  rw [if_pos (show i_ (-1) = (-1 : Int32) from rfl)]
  simp only [Rii, Rgi, Rpi, Rai, Rbi, Rri, Rni, Rdi, Roi, Rti, Rzi, RCi, RSi, Ria, Rga, Rpa, Raa, Rba, Rra, Rna, Rda, Roa, Rta, Rza, RCa, RSa, RiA, RgA, RpA, RaA, RbA, RrA, RnA, RdA, RoA, RtA, RzA, RCA, RSA, hN.1.1, hN.1.2, i_nat' (show ns.length < 2147483648 by omega), i_nat' (show lm < 2147483648 by omega), i_nat' (show f < 2147483648 by omega), i_nat' (show s.length < 2147483648 by omega), hrow, hlet, n1, n2, n3, n4, n5, hN.2.2.2.2.1 _ hh]
  refine ⟨i_inb' (by omega) (by omega), i_inb' (by omega) (by omega), hhi, i_inb' (by omega) (by omega), hhi, ⟨⟨i_nn (by omega), i_nn (by omega), i_nn (by omega)⟩, hr.1, by omega, fun i hi => ?_⟩, h2 hnot⟩
  have hrr := hr.2.2 i hi
  rcases hck with e | e
  · cases e
    simp only [Nat.reduceEqDiff, false_and, if_false]
    rw [hrr]
    exact fits_b (asc_getD hs i)
  · cases e
    simp only [Nat.reduceEqDiff, false_and, if_false]
    rw [hrr]
    exact fits_b (asc_getD hs i)
/-- along the names with a hash; none there: the name is added -/
theorem c2_name_chain (hL : 60 ≤ L) (ho : w_own w wG E.2.1 1 c o k) (hN : NT2 w ns lm) (hr : rowN w c o k f s) (hf : f ≤ 6000) (hs : asc s) (hs16 : s.length ≤ 16) (hroom : ns.length < 1400 ∧ lm + s.length ≤ 4000) (hck : (c, o, k) = (1, 0, 0) ∨ (c, o, k) = (1, 0, 19))
    (h1 : ∀ m, m < ns.length → ns.getD m [] = s → Q (.inl (some (.int (i_ m)))) w) (h2 : s ∉ ns → Q (.inl (some (.int (i_ ns.length)))) (nm_add w c o k f ns.length lm s.length (hsh s) (i_ (prv ns (hsh s) ns.length)))) : ∀ b m, m ≤ b → m ≤ ns.length → (∀ j, m ≤ j → j < ns.length → ns.getD j [] ≠ s) → zL_X2_name_p55 E L Q c o k (i_ f) (i_ s.length) (hsh s) (i_ (prv ns (hsh s) m)) w := by
  have hb := hN.2.1
  obtain ⟨n1, n2, n3, n4, n5⟩ := hN.2.2.1
  have hh := hsh_rng s
  have hhn : (hsh s).toNatClampNeg < 256 := by
    have : (hsh s).toNatClampNeg = (hsh s).toInt.toNat := rfl
    omega
  have hhi : kx_inb (hsh s) 256 = true := by
    rw [i_of (hsh s)]
    exact i_inb (by omega) (by omega)
  intro b
  induction b with
  | zero =>
    intro m hm hml hall
    exact c2_add hL ho hN hr hf hs hs16 hroom hck (fun hn => h2 hn) (by
      have : m = 0 := by omega
      subst this
      rfl) (fun j hj => hall j (by omega) hj)
  | succ b ih =>
    intro m hm hml hall
    have hpr := prv_rng (ns := ns) (h := hsh s) (m := m)
    by_cases hp : prv ns (hsh s) m = -1
    · refine c2_add hL ho hN hr hf hs hs16 hroom hck (fun hn => h2 hn) hp (fun j hj e => ?_)
      by_cases hjm : j < m
      · exact prv_no hp j hjm (by rw [e])
      · exact hall j (by omega) hj e
    · obtain ⟨q, hq⟩ : ∃ q : Nat, prv ns (hsh s) m = (q : Int) := ⟨(prv ns (hsh s) m).toNat, by omega⟩
      obtain ⟨a1, a2, a3⟩ := prv_at hq
      rw [hq]
      refine zt_X2_name_p55 (by omega) ho ?_
      simp only [zb_X2_name_p55]
      rw [if_neg (fun e => by rw [i_m1] at e; have := (i_eq (by omega) (by omega)).mp e; omega)]
      refine ⟨i_inb' (by omega) (by omega), ?_⟩
      rw [i_nat' (show q < 2147483648 by omega)]
      obtain ⟨p, e1, e2, e3, e4⟩ := hN.2.2.2.1 q (by omega)
      have hq16 := (hN.2.2.2.2.2.2.2 _ (getD_mem (show q < ns.length by omega))).2
      rw [e3]
      have nx : ns.getD q [] ≠ s → zL_X2_name_p55 E L Q c o k (i_ f) (i_ s.length) (hsh s) (w_a w 1 0 14 q) w := by
        intro hne
        rw [hN.2.2.2.2.2.1 q (by omega), a1]
        refine ih q (by omega) (by omega) (fun j h3 h4 e => ?_)
        by_cases hjq : j = q
        · rw [hjq] at e
          exact hne e
        · by_cases hjm : j < m
          · exact a3 j (by omega) hjm (by rw [e])
          · exact hall j (by omega) h4 e
      by_cases hlen : (ns.getD q []).length = s.length
      · rw [if_neg (fun e => e (by rw [hlen]))]
        simp only [zb_X2_name_p77]
        exact c2_name_cmp hL ho hN hr hf hs (by omega) hlen (hsh s) (fun e => h1 q (by omega) e) nx s.length 0 (by omega) (fun i hi => by omega)
      · rw [if_pos (fun e => hlen (by have := (i_eq (by omega) (by omega)).mp e; omega))]
        simp only [zb_X2_name_p77]
        refine zt_X2_name_p82 (by omega) ho ?_
        simp only [zb_X2_name_p82, zb_X2_name_p130]
        rw [if_pos trivial, if_pos trivial]
        refine ⟨i_inb' (by omega) (by omega), ?_⟩
        rw [i_nat' (show q < 2147483648 by omega)]
        exact nx (fun e => hlen (by rw [e]))
section NA
variable {n len : Nat} {h pv : Int32}
theorem nmi17 : w_i (nm_add w c o k f n lm len h pv) 1 0 17 = i_ (n + 1) := by
  unfold nm_add
  simp only [Rii, Rgi, Rpi, Rai, Rbi, Rri, Rni, Rdi, Roi, Rti, Rzi, RCi, RSi, Ria, Rga, Rpa, Raa, Rba, Rra, Rna, Rda, Roa, Rta, Rza, RCa, RSa, RiA, RgA, RpA, RaA, RbA, RrA, RnA, RdA, RoA, RtA, RzA, RCA, RSA]
  simp [i_add, i_1]
theorem nmi18 : w_i (nm_add w c o k f n lm len h pv) 1 0 18 = i_ (lm + len) := by
  unfold nm_add
  simp only [Rii, Rgi, Rpi, Rai, Rbi, Rri, Rni, Rdi, Roi, Rti, Rzi, RCi, RSi, Ria, Rga, Rpa, Raa, Rba, Rra, Rna, Rda, Roa, Rta, Rza, RCa, RSa, RiA, RgA, RpA, RaA, RbA, RrA, RnA, RdA, RoA, RtA, RzA, RCA, RSA]
  simp [i_add, i_1]
theorem nma12 {q : Nat} : w_a (nm_add w c o k f n lm len h pv) 1 0 12 q = if q = n then i_ lm else w_a w 1 0 12 q := by
  unfold nm_add
  simp only [Rii, Rgi, Rpi, Rai, Rbi, Rri, Rni, Rdi, Roi, Rti, Rzi, RCi, RSi, Ria, Rga, Rpa, Raa, Rba, Rra, Rna, Rda, Roa, Rta, Rza, RCa, RSa, RiA, RgA, RpA, RaA, RbA, RrA, RnA, RdA, RoA, RtA, RzA, RCA, RSA]
  simp
theorem nma13 {q : Nat} : w_a (nm_add w c o k f n lm len h pv) 1 0 13 q = if q = n then i_ len else w_a w 1 0 13 q := by
  unfold nm_add
  simp only [Rii, Rgi, Rpi, Rai, Rbi, Rri, Rni, Rdi, Roi, Rti, Rzi, RCi, RSi, Ria, Rga, Rpa, Raa, Rba, Rra, Rna, Rda, Roa, Rta, Rza, RCa, RSa, RiA, RgA, RpA, RaA, RbA, RrA, RnA, RdA, RoA, RtA, RzA, RCA, RSA]
  simp
theorem nma14 {q : Nat} : w_a (nm_add w c o k f n lm len h pv) 1 0 14 q = if q = n then pv else w_a w 1 0 14 q := by
  unfold nm_add
  simp only [Rii, Rgi, Rpi, Rai, Rbi, Rri, Rni, Rdi, Roi, Rti, Rzi, RCi, RSi, Ria, Rga, Rpa, Raa, Rba, Rra, Rna, Rda, Roa, Rta, Rza, RCa, RSa, RiA, RgA, RpA, RaA, RbA, RrA, RnA, RdA, RoA, RtA, RzA, RCA, RSA]
  simp
theorem nma15 {q : Nat} : w_a (nm_add w c o k f n lm len h pv) 1 0 15 q = if q = h.toNatClampNeg then i_ n else w_a w 1 0 15 q := by
  unfold nm_add
  simp only [Rii, Rgi, Rpi, Rai, Rbi, Rri, Rni, Rdi, Roi, Rti, Rzi, RCi, RSi, Ria, Rga, Rpa, Raa, Rba, Rra, Rna, Rda, Roa, Rta, Rza, RCa, RSa, RiA, RgA, RpA, RaA, RbA, RrA, RnA, RdA, RoA, RtA, RzA, RCA, RSA]
  simp
theorem nma16 {q : Nat} : w_a (nm_add w c o k f n lm len h pv) 1 0 16 q = va_cpy (w_a w c o k) (w_a w 1 0 16) f lm len q := by
  unfold nm_add
  simp only [Rii, Rgi, Rpi, Rai, Rbi, Rri, Rni, Rdi, Roi, Rti, Rzi, RCi, RSi, Ria, Rga, Rpa, Raa, Rba, Rra, Rna, Rda, Roa, Rta, Rza, RCa, RSa, RiA, RgA, RpA, RaA, RbA, RrA, RnA, RdA, RoA, RtA, RzA, RCA, RSA]
  simp
theorem nmn {c' o' k' : Nat} : w_n (nm_add w c o k f n lm len h pv) c' o' k' = w_n w c' o' k' := by
  unfold nm_add
  simp only [Rii, Rgi, Rpi, Rai, Rbi, Rri, Rni, Rdi, Roi, Rti, Rzi, RCi, RSi, Ria, Rga, Rpa, Raa, Rba, Rra, Rna, Rda, Roa, Rta, Rza, RCa, RSa, RiA, RgA, RpA, RaA, RbA, RrA, RnA, RdA, RoA, RtA, RzA, RCA, RSA]
theorem nmf : frm (pk 1 [12, 13, 14, 15, 16, 17, 18]) w (nm_add w c o k f n lm len h pv) := by
  unfold nm_add
  exact (((((((frm_a rfl).tr (frm_a rfl)).tr (frm_a rfl)).tr (frm_a rfl)).tr (frm_A rfl)).tr (frm_i rfl)).tr (frm_i rfl))
end NA
/-- what the table says with a name more -/
theorem nm_add_NT (hN : NT2 w ns lm) (hr : rowN w c o k f s) (hs : asc s) (hs16 : s.length ≤ 16) (hroom : ns.length < 1400 ∧ lm + s.length ≤ 4000) (hn : s ∉ ns) : NT2 (nm_add w c o k f ns.length lm s.length (hsh s) (i_ (prv ns (hsh s) ns.length))) (ns ++ [s]) (lm + s.length) := by
  have hb := hN.2.1
  have hlen : (ns ++ [s]).length = ns.length + 1 := by simp
  have hlast : (ns ++ [s]).getD ns.length [] = s := by
    rw [List.getD_eq_getElem?_getD, List.getElem?_append_right (Nat.le_refl _)]
    simp
  have hold : ∀ q, q < ns.length → (ns ++ [s]).getD q [] = ns.getD q [] := fun q hq => by
    rw [List.getD_eq_getElem?_getD, List.getD_eq_getElem?_getD, List.getElem?_append_left hq]
  have hh := hsh_rng s
  have hpv : ∀ h m, m ≤ ns.length → prv (ns ++ [s]) h m = prv ns h m := fun h m hm => prv_cut hm
  refine ⟨⟨?_, ?_⟩, ⟨?_, ?_⟩, ?_, fun q hq => ?_, fun h hh2 => ?_, fun q hq => ?_, ?_, fun t ht => ?_⟩
  · rw [nmi17, hlen]
    rfl
  · rw [nmi18]
    rfl
  · rw [hlen]
    omega
  · omega
  · simp only [nmn]
    exact hN.2.2.1
  · rw [hlen] at hq
    by_cases hq2 : q = ns.length
    · subst hq2
      rw [hlast]
      refine ⟨lm, ?_, Nat.le_refl _, ?_, fun j hj => ?_⟩
      · rw [nma12, if_pos rfl]
      · rw [nma13, if_pos rfl]
      · rw [nma16]
        unfold va_cpy
        rw [if_pos ⟨by omega, by omega⟩, show f + (lm + j - lm) = f + j by omega]
        exact hr.2.2 j hj
    · obtain ⟨p, e1, e2, e3, e4⟩ := hN.2.2.2.1 q (by omega)
      rw [hold q (by omega)]
      refine ⟨p, ?_, by omega, ?_, fun j hj => ?_⟩
      · rw [nma12, if_neg hq2, e1]
      · rw [nma13, if_neg hq2, e3]
      · rw [nma16]
        unfold va_cpy
        rw [if_neg (by omega)]
        exact e4 j hj
  · rw [nma15, hlen]
    unfold prv
    rw [hlast, hpv _ _ (Nat.le_refl _)]
    have hinj : h.toNatClampNeg = (hsh s).toNatClampNeg ↔ hsh s = h := by
      constructor
      · intro e
        have e1 : h.toNatClampNeg = h.toInt.toNat := rfl
        have e2 : (hsh s).toNatClampNeg = (hsh s).toInt.toNat := rfl
        apply Int32.toInt_inj.mp
        omega
      · intro e
        rw [e]
    by_cases e : hsh s = h
    · rw [if_pos (hinj.mpr e), if_pos e]
    · rw [if_neg (fun q => e (hinj.mp q)), if_neg e]
      exact hN.2.2.2.2.1 h hh2
  · rw [hlen] at hq
    by_cases hq2 : q = ns.length
    · subst hq2
      rw [nma14, if_pos rfl, hlast, hpv _ _ (Nat.le_refl _)]
    · rw [nma14, if_neg hq2, hold q (by omega), hpv _ _ (by omega)]
      exact hN.2.2.2.2.2.1 q (by omega)
  · rw [List.nodup_append]
    refine ⟨hN.2.2.2.2.2.2.1, by simp, fun a ha b hb2 => ?_⟩
    simp at hb2
    rw [hb2]
    intro e
    rw [e] at ha
    exact hn ha
  · rcases List.mem_append.mp ht with h1 | h1
    · exact hN.2.2.2.2.2.2.2 t h1
    · simp at h1
      rw [h1]
      exact ⟨hs, hs16⟩
/-- the number of a name: it stands there, or is added -/
theorem c2_name (hL : 60 ≤ L) (ho : w_own w wG E.2.1 1 c o k) (hN : NT2 w ns lm) (hr : rowN w c o k f s) (hf : f ≤ 6000) (hs : asc s) (hs16 : s.length ≤ 16) (hroom : ns.length < 1400 ∧ lm + s.length ≤ 4000) (hck : (c, o, k) = (1, 0, 0) ∨ (c, o, k) = (1, 0, 19)) {a : Nat} (ha : w_aa wG E.2.1 w c o k = a)
    (h1 : ∀ m, m < ns.length → ns.getD m [] = s → Q (.inl (some (.int (i_ m)))) w) (h2 : s ∉ ns → Q (.inl (some (.int (i_ ns.length)))) (nm_add w c o k f ns.length lm s.length (hsh s) (i_ (prv ns (hsh s) ns.length)))) : zw E L kt_M244 [.ref (w_adr E.2.1 1 0), .ref a, .int (i_ f), .int (i_ s.length)] w Q := by
  subst ha
  refine zt_X2_name_p0 (by omega) ho ?_
  simp only [zb_X2_name_p0]
  have loop : ∀ d j, j + d = s.length → zL_X2_name_p6 E L Q c o k (i_ f) (i_ s.length) (hsf (i_ s.length) (s.take j)) (i_ j) w := by
    intro d
    induction d with
    | zero =>
      intro j hj
      refine zt_X2_name_p6 (by omega) ho ?_
      simp only [zb_X2_name_p6]
      rw [if_pos ((i_le (by omega) (by omega)).mpr (by omega)), show s.take j = s from List.take_of_length_le (by omega)]
      have hh := hsh_rng s
      refine ⟨?_, ?_⟩
      · rw [hN.2.2.1.2.2.2.1]
        show kx_inb (hsh s) 256 = true
        rw [i_of (hsh s)]
        exact i_inb (by omega) (by omega)
      · show zL_X2_name_p55 E L Q c o k (i_ f) (i_ s.length) (hsh s) (w_a w 1 0 15 (hsh s).toNatClampNeg) w
        rw [hN.2.2.2.2.1 _ hh]
        exact c2_name_chain hL ho hN hr hf hs hs16 hroom hck h1 h2 ns.length ns.length (Nat.le_refl _) (Nat.le_refl _) (fun j h3 h4 => by omega)
    | succ d ih =>
      intro j hj
      refine zt_X2_name_p6 (by omega) ho ?_
      simp only [zb_X2_name_p6]
      rw [if_neg (fun q => by have := (i_le (by omega) (by omega)).mp q; omega), i_add]
      have g2 : (f : Int) + (j : Int) = ((f + j : Nat) : Int) := by omega
      rw [g2, i_nat' (show f + j < 2147483648 by omega)]
      refine ⟨i_inb' (by omega) (by have := hr.1; omega), ?_⟩
      rw [hr.2.2 j (by omega), ← hsf_take (by omega), i_1, i_add, show (j : Int) + 1 = ((j + 1 : Nat) : Int) by omega]
      exact ih (j + 1) (by omega)
  exact loop s.length 0 (by omega)
end NM
