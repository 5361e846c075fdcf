/-! ===== PARSERS, part 4: MeetingHouse's nodes ===== -/
/-- the store: addresses of all nodes that were made (al), how many are in use (m) -/
def STO (E : zE) (w : wS) (al : List Nat) (m : Nat) : Prop := (w_i w 3 0 3 = i_ m ∧ m ≤ al.length ∧ al.length ≤ w_n w 3 0 0 ∧ 1 ≤ w_n w 3 0 0 ∧ w_n w 3 0 0 ≤ 32768) ∧ (∀ k, k < al.length → w_r w 3 0 0 k = some (al.getD k 0)) ∧ (∀ k, al.length ≤ k → k < w_n w 3 0 0 → w_r w 3 0 0 k = none) ∧ al.Nodup ∧ (∀ a ∈ al, w_l w E.2.1 14 a ∧ a < w_z w) ∧ (w_o w (w_d w 3 0 0) = some (3, 0, 0) ∧ w_d w 3 0 0 < w_z w) ∧ 45000 ≤ w_C w + al.length + w_n w 3 0 0 ∧ 400000 ≤ w_S w + 22 * al.length + 2 * w_n w 3 0 0
theorem STO.cong {E : zE} {w w' : wS} {al : List Nat} {m : Nat} (h : STO E w al m) (h1 : w_i w' 3 0 3 = w_i w 3 0 3) (h2 : w_r w' 3 0 0 = w_r w 3 0 0) (h3 : w_n w' 3 0 0 = w_n w 3 0 0) (h4 : w_o w' = w_o w) (h5 : w_d w' 3 0 0 = w_d w 3 0 0) (h6 : w_z w' = w_z w) (h7 : w_C w' = w_C w) (h8 : w_S w' = w_S w) : STO E w' al m := by
  unfold STO w_l at h ⊢
  rw [h1, h2, h3, h4, h5, h6, h7, h8]
  exact h
theorem STO.i {E : zE} {w : wS} {al : List Nat} {m c o k : Nat} {v : Int32} (h : STO E w al m) (hc : c ≠ 3) : STO E (ws_i w c o k v) al m := h.cong (by rw [Rii, if_neg (fun q => hc q.2.1.symm)]) rfl rfl rfl rfl rfl rfl rfl
theorem STO.p {E : zE} {w : wS} {al : List Nat} {m c o k : Nat} {v : Option Nat} (h : STO E w al m) : STO E (ws_p w c o k v) al m := h.cong rfl rfl rfl rfl rfl rfl rfl rfl
/-- a node as it begins -/
def ndr (w : wS) (p : Nat) (x1 : Option Nat) (x2 x3 : Int32) : Prop := (w_p w 14 p 0 = x1 ∧ w_i w 14 p 1 = x2 ∧ w_i w 14 p 2 = x3) ∧ (w_p w 14 p 3 = none ∧ w_p w 14 p 4 = none ∧ w_p w 14 p 5 = none ∧ w_p w 14 p 6 = none ∧ w_p w 14 p 7 = none ∧ w_p w 14 p 16 = none) ∧ (w_i w 14 p 8 = -1 ∧ w_i w 14 p 9 = -1 ∧ w_i w 14 p 10 = 0 ∧ w_i w 14 p 11 = 0 ∧ w_i w 14 p 12 = 0 ∧ w_i w 14 p 13 = 0 ∧ w_i w 14 p 14 = 0 ∧ w_i w 14 p 15 = 0) ∧ (w_i w 14 p 17 = 0 ∧ w_i w 14 p 18 = -1 ∧ w_i w 14 p 19 = 0 ∧ w_i w 14 p 20 = 0 ∧ w_i w 14 p 21 = 0)
def NO2 (E : zE) (w : wS) (al : List Nat) (m : Nat) (x1 : Option Nat) (x2 x3 : Int32) (r : kx_Rs) (w' : wS) : Prop := ∃ p al', r = .inl (some (va_rf (some p))) ∧ al <+: al' ∧ STO E w' al' (m + 1) ∧ al'.getD m 0 = p ∧ p ∉ al.take m ∧ ndr w' p x1 x2 x3 ∧ (∀ a k, a ≠ p → a < w_z w → w_i w' 14 a k = w_i w 14 a k ∧ w_p w' 14 a k = w_p w 14 a k) ∧ fxm pX w w' ∧ w_z w ≤ w_z w' ∧ (w_i w' 4 0 3 = w_i w 4 0 3 ∧ w_i w' 4 0 4 = w_i w 4 0 4 ∧ w_i w' 4 0 5 = w_i w 4 0 5) ∧ w_C w + al.length + w_n w 3 0 0 ≤ w_C w' + al'.length + w_n w' 3 0 0 ∧ w_S w + 22 * al.length + 2 * w_n w 3 0 0 ≤ w_S w' + 22 * al'.length + 2 * w_n w' 3 0 0
theorem nodup_take {l : List Nat} (h : l.Nodup) {m : Nat} (hm : m < l.length) : l.getD m 0 ∉ l.take m := by
  intro hmem
  obtain ⟨i, hi, e⟩ := List.getElem_of_mem hmem
  rw [List.length_take] at hi
  rw [List.getElem_take, List.getD_eq_getElem?_getD, List.getElem?_eq_getElem hm] at e
  exact (List.pairwise_iff_getElem.mp h) i m (by omega) hm (by omega) e
section ND2
variable {E : zE} {L : Nat} {w w0 : wS} {Q : kx_Rs → wS → Prop} {al : List Nat} {m p : Nat} {x1 : Option Nat} {x2 x3 : Int32}
theorem getD_mem_n {l : List Nat} {k : Nat} (h : k < l.length) : l.getD k 0 ∈ l := by
  rw [List.getD_eq_getElem?_getD, List.getElem?_eq_getElem h]
  exact List.getElem_mem h
theorem c_node72 (hL : 50 ≤ L) (hS : STO E w al m) (hm : m < al.length) (hm2 : m < 40000) : eS (fun Q => zb_X4_node_p72 E L Q x1 x2 x3 w) (NO2 E w al m x1 x2 x3) := by
  obtain ⟨⟨h1, h2, h3, h4, h5⟩, h6, h7, h8, h9, h10, h11, h12⟩ := hS
  have hmem := getD_mem_n hm
  simp only [zb_X4_node_p72, h1, i_nat' (show m < 2147483648 by omega)]
  refine eS_and (i_inb' (by omega) (by omega)) ?_
  refine eS_ex (al.getD m 0) (h6 m hm) (eS_and (h9 _ hmem).1 ?_)
  refine eS_l (g' := fun Q => zb_X16_begin_p0 E (L - 23) (wkr (fun v3 w2 => wle (ws_i w 3 0 3 (i_ m + 1)) w2 → Q (.inl (some (va_rf v3))) w2) (fun e w => Q (.inr e) w)) (al.getD m 0) x1 x2 x3 (ws_i w 3 0 3 (i_ m + 1))) (fun Q h => by cases x1 <;> exact zt_X16_begin_p0 (E := E) (L := L - 23) (x0 := al.getD m 0) (x2 := x2) (x3 := x3) (w := ws_i w 3 0 3 (i_ m + 1)) (by omega) (h9 _ hmem).1 h) ?_
  simp only [zb_X16_begin_p0]
  have hl : ∀ {A : pQ}, True := trivial
  refine eS_l (g' := fun Q => Q (.inl (some (va_rf (some (al.getD m 0))))) (ws_i (ws_i (ws_i (ws_i (ws_i (ws_p (ws_i (ws_i (ws_i (ws_i (ws_i (ws_i (ws_i (ws_i (ws_p (ws_p (ws_p (ws_p (ws_p (ws_i (ws_i (ws_p (ws_i w 3 0 3 (i_ m + 1)) 14 (al.getD m 0) 0 x1) 14 (al.getD m 0) 1 x2) 14 (al.getD m 0) 2 x3) 14 (al.getD m 0) 3 none) 14 (al.getD m 0) 4 none) 14 (al.getD m 0) 5 none) 14 (al.getD m 0) 6 none) 14 (al.getD m 0) 7 none) 14 (al.getD m 0) 8 (-1)) 14 (al.getD m 0) 9 (-1)) 14 (al.getD m 0) 10 0) 14 (al.getD m 0) 11 0) 14 (al.getD m 0) 12 0) 14 (al.getD m 0) 13 0) 14 (al.getD m 0) 14 0) 14 (al.getD m 0) 15 0) 14 (al.getD m 0) 16 none) 14 (al.getD m 0) 17 0) 14 (al.getD m 0) 18 (-1)) 14 (al.getD m 0) 19 0) 14 (al.getD m 0) 20 0) 14 (al.getD m 0) 21 0)) (fun Q hq => by simp only [wkr, va_rf]; exact fun _ => hq) ?_
  refine eS_ret ⟨al.getD m 0, al, rfl, List.prefix_refl _, ?_, rfl, nodup_take h8 hm, ?_, ?_, ?_, Nat.le_refl _, ?_, Nat.le_refl _, Nat.le_refl _⟩
  · refine ⟨⟨?_, by omega, h3, h4, h5⟩, h6, h7, h8, h9, h10, h11, h12⟩
    simp only [Rii, Rgi, Rpi, Rai, Rbi, Rri, Rni, Rdi, Roi, Rti, Rzi, RCi, RSi, Rip, Rgp, Rpp, Rap, Rbp, Rrp, Rnp, Rdp, Rop, Rtp, Rzp, RCp, RSp]
    simp
    rw [i_1, i_add]
  · unfold ndr
    simp only [Rii, Rgi, Rpi, Rai, Rbi, Rri, Rni, Rdi, Roi, Rti, Rzi, RCi, RSi, Rip, Rgp, Rpp, Rap, Rbp, Rrp, Rnp, Rdp, Rop, Rtp, Rzp, RCp, RSp]
    simp
  · intro a k ha hz
    simp only [Rii, Rgi, Rpi, Rai, Rbi, Rri, Rni, Rdi, Roi, Rti, Rzi, RCi, RSi, Rip, Rgp, Rpp, Rap, Rbp, Rrp, Rnp, Rdp, Rop, Rtp, Rzp, RCp, RSp]
    simp only [ha, and_false, if_false, and_self]
    simp
  · exact (((((((((((((((((((((((FX_i (w := w) (c := 3) (o := 0) (k := 3) (v := i_ m + 1) rfl).tr (FX_p rfl)).tr (FX_i rfl)).tr (FX_i rfl)).tr (FX_p rfl)).tr (FX_p rfl)).tr (FX_p rfl)).tr (FX_p rfl)).tr (FX_p rfl)).tr (FX_i rfl)).tr (FX_i rfl)).tr (FX_i rfl)).tr (FX_i rfl)).tr (FX_i rfl)).tr (FX_i rfl)).tr (FX_i rfl)).tr (FX_i rfl)).tr (FX_p rfl)).tr (FX_i rfl)).tr (FX_i rfl)).tr (FX_i rfl)).tr (FX_i rfl)).tr (FX_i rfl)).1
  · simp only [Rii, Rgi, Rpi, Rai, Rbi, Rri, Rni, Rdi, Roi, Rti, Rzi, RCi, RSi, Rip, Rgp, Rpp, Rap, Rbp, Rrp, Rnp, Rdp, Rop, Rtp, Rzp, RCp, RSp]
    simp
theorem NO2.up {w1 : wS} {al1 : List Nat} {r : kx_Rs} {w' : wS} (h : NO2 E w1 al1 m x1 x2 x3 r w') (hm : m ≤ al.length) (ha : al <+: al1) (hi : ∀ a k, a < w_z w → w_i w1 14 a k = w_i w 14 a k ∧ w_p w1 14 a k = w_p w 14 a k) (hf : fxm pX w w1) (hz : w_z w ≤ w_z w1) (h4 : w_i w1 4 0 3 = w_i w 4 0 3 ∧ w_i w1 4 0 4 = w_i w 4 0 4 ∧ w_i w1 4 0 5 = w_i w 4 0 5) (hc : w_C w + al.length + w_n w 3 0 0 ≤ w_C w1 + al1.length + w_n w1 3 0 0) (hs : w_S w + 22 * al.length + 2 * w_n w 3 0 0 ≤ w_S w1 + 22 * al1.length + 2 * w_n w1 3 0 0) : NO2 E w al m x1 x2 x3 r w' := by
  obtain ⟨p, al', g1, g2, g3, g4, g5, g6, g7, g8, g9, g10, g11, g12⟩ := h
  refine ⟨p, al', g1, ha.trans g2, g3, g4, ?_, g6, fun a k h1 h2 => ⟨(g7 a k h1 (by omega)).1.trans (hi a k h2).1, (g7 a k h1 (by omega)).2.trans (hi a k h2).2⟩, hf.tr g8, by omega, ⟨g10.1.trans h4.1, g10.2.1.trans h4.2.1, g10.2.2.trans h4.2.2⟩, by omega, by omega⟩
  obtain ⟨t, rfl⟩ := ha
  rw [List.take_append_of_le_length hm] at g5
  exact g5
theorem c_node44 (hL : 60 ≤ L) (hS : STO E w al m) (hm : m < w_n w 3 0 0) (hm2 : m < 11000) : eS (fun Q => zb_X4_node_p44 E L Q x1 x2 x3 w) (NO2 E w al m x1 x2 x3) := by
  have hS' := hS
  obtain ⟨⟨h1, h2, h3, h4, h5⟩, h6, h7, h8, h9, ⟨h10, h10b⟩, h11, h12⟩ := hS
  simp only [zb_X4_node_p44, h1, i_nat' (show m < 2147483648 by omega)]
  refine eS_and (i_inb' (by omega) (by omega)) ?_
  by_cases hlt : m < al.length
  · rw [if_pos_fun (by rw [h6 m hlt]; simp)]
    exact c_node72 (by omega) hS' hlt (by omega)
  have hml : m = al.length := by omega
  rw [if_neg_fun (not_not_intro (h7 m (by omega) hm))]
  refine eS_and ⟨by omega, by omega⟩ ?_
  refine eS_0 (w2 := ws_obj w 14 22) (fun Q hq => ?_) ?_
  · refine zt_X16_init_p0 (x0 := w_z w) (by omega) ?_ ?_
    · show w_o (ws_obj w 14 22) (w_z w) = _
      rw [RoO, if_pos rfl]
    · simp only [zb_X16_init_p0]
      exact hq
  refine eS_and rfl (eS_and (i_inb' (by omega) (by rw [RnO]; exact hm)) ?_)
  have hl : (al ++ [w_z w]).length = al.length + 1 := by simp
  have hS2 : STO E (ws_r (ws_obj w 14 22) 3 0 0 m (some (w_z w))) (al ++ [w_z w]) m := by
    refine ⟨⟨?_, by omega, ?_, ?_, ?_⟩, fun k hk => ?_, fun k hk1 hk2 => ?_, ?_, fun a ha => ?_, ⟨?_, ?_⟩, ?_, ?_⟩
    · simp only [Rir, Rgr, Rpr, Rar, Rbr, Rrr, Rnr, Rdr, Ror, Rtr, Rzr, RCr, RSr, RiO]
      rw [if_neg (by simp)]
      exact h1
    · simp only [Rir, Rgr, Rpr, Rar, Rbr, Rrr, Rnr, Rdr, Ror, Rtr, Rzr, RCr, RSr, RnO]
      omega
    · simp only [Rir, Rgr, Rpr, Rar, Rbr, Rrr, Rnr, Rdr, Ror, Rtr, Rzr, RCr, RSr, RnO]
      omega
    · simp only [Rir, Rgr, Rpr, Rar, Rbr, Rrr, Rnr, Rdr, Ror, Rtr, Rzr, RCr, RSr, RnO]
      omega
    · simp only [Rir, Rgr, Rpr, Rar, Rbr, Rrr, Rnr, Rdr, Ror, Rtr, Rzr, RCr, RSr, RrO]
      by_cases e : k = m
      · rw [if_pos ⟨trivial, trivial, trivial, e⟩, e, hml]
        simp
      · rw [if_neg (fun q => e q.2.2.2)]
        have hk' : k < al.length := by omega
        rw [h6 k hk', List.getD_eq_getElem?_getD, List.getD_eq_getElem?_getD, List.getElem?_append_left hk']
    · simp only [Rir, Rgr, Rpr, Rar, Rbr, Rrr, Rnr, Rdr, Ror, Rtr, Rzr, RCr, RSr, RnO] at hk2
      simp only [Rir, Rgr, Rpr, Rar, Rbr, Rrr, Rnr, Rdr, Ror, Rtr, Rzr, RCr, RSr, RrO]
      rw [if_neg (fun q => by have := q.2.2.2; omega)]
      exact h7 k (by omega) hk2
    · rw [List.nodup_append]
      refine ⟨h8, by simp, fun a ha b hb => ?_⟩
      simp at hb
      subst hb
      have := (h9 a ha).2
      omega
    · unfold w_l
      simp only [Rir, Rgr, Rpr, Rar, Rbr, Rrr, Rnr, Rdr, Ror, Rtr, Rzr, RCr, RSr, RoO, RzO]
      rcases List.mem_append.mp ha with h | h
      · have := h9 a h
        unfold w_l at this
        have hne : ¬ (w_adr E.2.1 14 a = w_z w) := by
          have e : w_adr E.2.1 14 a = a := rfl
          rw [e]
          omega
        rw [if_neg hne]
        exact ⟨this.1, by omega⟩
      · simp at h
        subst h
        have e : w_adr E.2.1 14 (w_z w) = w_z w := rfl
        rw [e, if_pos rfl]
        exact ⟨rfl, by omega⟩
    · simp only [Rir, Rgr, Rpr, Rar, Rbr, Rrr, Rnr, Rdr, Ror, Rtr, Rzr, RCr, RSr, RoO]
      have e : w_d (ws_obj w 14 22) 3 0 0 = w_d w 3 0 0 := rfl
      rw [e, if_neg (by omega)]
      exact h10
    · simp only [Rir, Rgr, Rpr, Rar, Rbr, Rrr, Rnr, Rdr, Ror, Rtr, Rzr, RCr, RSr, RzO]
      have e : w_d (ws_obj w 14 22) 3 0 0 = w_d w 3 0 0 := rfl
      rw [e]
      omega
    · simp only [Rir, Rgr, Rpr, Rar, Rbr, Rrr, Rnr, Rdr, Ror, Rtr, Rzr, RCr, RSr, RnO, RCO]
      omega
    · simp only [Rir, Rgr, Rpr, Rar, Rbr, Rrr, Rnr, Rdr, Ror, Rtr, Rzr, RCr, RSr, RnO, RSO]
      omega
  refine eS_mono (c_node72 (by omega) hS2 (by omega) (by omega)) (fun r w' h => h.up (by omega) (List.prefix_append _ _) (fun a k ha => ?_) ?_ ?_ ?_ ?_ ?_)
  · simp only [Rir, Rgr, Rpr, Rar, Rbr, Rrr, Rnr, Rdr, Ror, Rtr, Rzr, RCr, RSr, RiO, RpO]
    rw [if_neg (by omega), if_neg (by omega)]
    exact ⟨rfl, rfl⟩
  · intro c k hp o
    simp only [Rir, Rgr, Rpr, Rar, Rbr, Rrr, Rnr, Rdr, Ror, Rtr, Rzr, RCr, RSr, RiO, RpO, RgO, RaO, RbO, RrO, RnO]
    have hne : ¬ (c = 14 ∧ o = w_z w) := by
      rintro ⟨rfl, -⟩
      cases hp
    rw [if_neg hne, if_neg hne, if_neg hne]
    have hne2 : ¬ (k = 0 ∧ c = 3) := by
      rintro ⟨rfl, rfl⟩
      cases hp
    refine ⟨⟨by first | rfl | trivial, by first | rfl | trivial, by first | rfl | trivial⟩, ⟨by first | rfl | trivial, by first | rfl | trivial, ?_⟩, by first | rfl | trivial, by first | rfl | trivial⟩
    funext j
    simp only [Rir, Rgr, Rpr, Rar, Rbr, Rrr, Rnr, Rdr, Ror, Rtr, Rzr, RCr, RSr, RrO]
    rw [if_neg (fun q => hne2 ⟨q.1, q.2.1⟩)]
  · simp only [Rir, Rgr, Rpr, Rar, Rbr, Rrr, Rnr, Rdr, Ror, Rtr, Rzr, RCr, RSr, RzO]
    omega
  · simp only [Rir, Rgr, Rpr, Rar, Rbr, Rrr, Rnr, Rdr, Ror, Rtr, Rzr, RCr, RSr, RiO]
    simp
  · simp only [Rir, Rgr, Rpr, Rar, Rbr, Rrr, Rnr, Rdr, Ror, Rtr, Rzr, RCr, RSr, RnO, RCO]
    omega
  · simp only [Rir, Rgr, Rpr, Rar, Rbr, Rrr, Rnr, Rdr, Ror, Rtr, Rzr, RCr, RSr, RnO, RSO]
    omega
theorem c_node (hL : 100 ≤ L) (hS : STO E w al m) (hm2 : m < 11000) : eW w (fun Q => zw E L kt_M225 [.ref (w_adr E.2.1 3 0), va_rf x1, .int x2, .int x3] w Q) (NO2 E w al m x1 x2 x3) := by
  have hS' := hS
  obtain ⟨⟨h1, h2, h3, h4, h5⟩, h6, h7, h8, h9, ⟨h10, h10b⟩, h11, h12⟩ := hS
  refine eW_of (A := fun Q => zb_X4_node_p0 E L Q x1 x2 x3 w) (fun Q h => by cases x1 <;> exact zt_X4_node_p0 (by omega) h) ?_
  refine eS_mono (P' := NO2 E w al m x1 x2 x3) ?_ (fun _ _ h _ => h)
  simp only [zb_X4_node_p0, h1, i_ofNat]
  by_cases hc : m = w_n w 3 0 0
  · rw [if_neg_fun (not_not_intro (by rw [hc]))]
    have hml : m = al.length := by omega
    have e2 : (2 : Int32) * i_ m = i_ (2 * m : Nat) := by
      rw [show (2 : Int32) = i_ 2 from rfl, i_mul]
      rfl
    simp only [e2, i_nat' (show 2 * m < 2147483648 by omega)]
    have e3 : w_i (ws_new w 5 (2 * m)) 3 0 3 = i_ m := h1
    simp only [e3, i_nat' (show m < 2147483648 by omega), show (0 : Int32).toNatClampNeg = 0 from rfl, Nat.zero_add]
    refine eS_and ⟨i_nn (by omega), by omega, by omega, by omega⟩ ?_
    refine eS_and ⟨by rw [RoN, if_pos rfl], by rw [RtN, if_pos rfl]⟩ ?_
    refine eS_and ⟨⟨by decide, by decide, i_nn (by omega)⟩, ?_, ?_, ?_⟩ ?_
    · rw [RnN, if_neg (by simp)]
      omega
    · rw [RnN, if_pos ⟨rfl, rfl, rfl⟩]
      omega
    · intro i hi y hy
      rw [RrN, if_neg (by simp), h6 i (by omega)] at hy
      have := h9 _ (getD_mem_n (show i < al.length by omega))
      cases hy
      unfold w_l at this ⊢
      have hne : ¬ (w_adr E.2.1 14 (al.getD i 0) = w_z w) := by
        have e : w_adr E.2.1 14 (al.getD i 0) = al.getD i 0 := rfl
        rw [e]
        omega
      rw [RoN, if_neg hne]
      exact this.1
    refine eS_and ⟨?_, ?_⟩ ?_
    · show w_o (ws_new w 5 (2 * m)) (w_z w) = _
      rw [RoN, if_pos rfl]
    · show w_t (ws_new w 5 (2 * m)) (w_z w) = _
      rw [RtN, if_pos rfl]
    have hS2 : STO E (ws_put (ws_R (ws_new w 5 (2 * m)) 99 (w_z w) 0 (va_cpy (w_r (ws_new w 5 (2 * m)) 3 0 0) (w_r (ws_new w 5 (2 * m)) 99 (w_z w) 0) 0 0 m)) 3 0 0 (w_z w)) al m := by
      have en : w_n (ws_put (ws_R (ws_new w 5 (2 * m)) 99 (w_z w) 0 (va_cpy (w_r (ws_new w 5 (2 * m)) 3 0 0) (w_r (ws_new w 5 (2 * m)) 99 (w_z w) 0) 0 0 m)) 3 0 0 (w_z w)) 3 0 0 = 2 * m := by
        rw [RnU, if_pos ⟨rfl, rfl, rfl⟩]
        show w_n (ws_new w 5 (2 * m)) 99 (w_z w) 0 = _
        rw [RnN, if_pos ⟨rfl, rfl, rfl⟩]
      have er : ∀ k, w_r (ws_put (ws_R (ws_new w 5 (2 * m)) 99 (w_z w) 0 (va_cpy (w_r (ws_new w 5 (2 * m)) 3 0 0) (w_r (ws_new w 5 (2 * m)) 99 (w_z w) 0) 0 0 m)) 3 0 0 (w_z w)) 3 0 0 k = if k < m then w_r w 3 0 0 k else none := by
        intro k
        rw [RrU, if_pos ⟨rfl, rfl, rfl⟩, RrR, if_pos ⟨rfl, rfl, rfl⟩]
        unfold va_cpy
        simp only [Nat.zero_le, Nat.zero_add, true_and, Nat.sub_zero]
        by_cases e : k < m
        · rw [if_pos e, if_pos e, RrN, if_neg (by simp)]
        · rw [if_neg e, if_neg e, RrN, if_pos ⟨rfl, rfl, rfl⟩]
      have eo : ∀ a, w_o (ws_put (ws_R (ws_new w 5 (2 * m)) 99 (w_z w) 0 (va_cpy (w_r (ws_new w 5 (2 * m)) 3 0 0) (w_r (ws_new w 5 (2 * m)) 99 (w_z w) 0) 0 0 m)) 3 0 0 (w_z w)) a = if a = w_z w then some (3, 0, 0) else if a = w_d w 3 0 0 then none else w_o w a := by
        intro a
        rw [RoU]
        by_cases e : a = w_z w
        · rw [if_pos e, if_pos e]
        · rw [if_neg e, if_neg e]
          show (if a = w_d w 3 0 0 then none else w_o (ws_new w 5 (2 * m)) a) = _
          rw [RoN, if_neg e]
      refine ⟨⟨h1, h2, by rw [en]; omega, by rw [en]; omega, by rw [en]; omega⟩, fun k hk => ?_, fun k hk1 hk2 => ?_, h8, fun a ha => ?_, ⟨?_, ?_⟩, ?_, ?_⟩
      · rw [er, if_pos (by omega)]
        exact h6 k hk
      · rw [er, if_neg (by omega)]
      · have := h9 a ha
        unfold w_l at this ⊢
        have e : w_adr E.2.1 14 a = a := rfl
        rw [e] at this ⊢
        have hnd : ¬ a = w_d w 3 0 0 := by
          intro e2
          rw [e2, h10] at this
          cases this.1
        rw [eo, if_neg (by omega), if_neg hnd]
        exact ⟨this.1, by show a < w_z w + 1; omega⟩
      · rw [RdU, if_pos ⟨rfl, rfl, rfl⟩, eo, if_pos rfl]
      · rw [RdU, if_pos ⟨rfl, rfl, rfl⟩]
        show w_z w < w_z w + 1
        omega
      · rw [en]
        show 45000 ≤ w_C w - 1 + al.length + 2 * m
        omega
      · rw [en]
        show 400000 ≤ w_S w - 2 * m + 22 * al.length + 2 * (2 * m)
        omega
    have en : w_n (ws_put (ws_R (ws_new w 5 (2 * m)) 99 (w_z w) 0 (va_cpy (w_r (ws_new w 5 (2 * m)) 3 0 0) (w_r (ws_new w 5 (2 * m)) 99 (w_z w) 0) 0 0 m)) 3 0 0 (w_z w)) 3 0 0 = 2 * m := by
      rw [RnU, if_pos ⟨rfl, rfl, rfl⟩]
      show w_n (ws_new w 5 (2 * m)) 99 (w_z w) 0 = _
      rw [RnN, if_pos ⟨rfl, rfl, rfl⟩]
    refine eS_mono (c_node44 (by omega) hS2 (by rw [en]; omega) (by omega)) (fun r w' h => h.up h2 (List.prefix_refl _) (fun a k ha => ⟨rfl, rfl⟩) ?_ ?_ ⟨rfl, rfl, rfl⟩ ?_ ?_)
    · intro c k hp o
      have hne : ¬ (k = 0 ∧ c = 3 ∧ o = 0) := by
        rintro ⟨rfl, rfl, -⟩
        cases hp
      have hne2 : ¬ (k = 0 ∧ c = 99 ∧ o = w_z w) := by
        rintro ⟨rfl, rfl, -⟩
        cases hp
      refine ⟨⟨rfl, rfl, rfl⟩, ⟨?_, ?_, ?_⟩, ?_, ?_⟩
      · funext j
        rw [RaU, if_neg hne]
        show w_a (ws_new w 5 (2 * m)) c o k j = _
        rw [RaN, if_neg hne2]
      · funext j
        rw [RbU, if_neg hne]
        show w_b (ws_new w 5 (2 * m)) c o k j = _
        rw [RbN, if_neg hne2]
      · funext j
        rw [RrU, if_neg hne, RrR, if_neg hne2, RrN, if_neg hne2]
      · rw [RnU, if_neg hne]
        show w_n (ws_new w 5 (2 * m)) c o k = _
        rw [RnN, if_neg hne2]
      · rw [RdU, if_neg hne]
        rfl
    · show w_z w ≤ w_z w + 1
      omega
    · rw [en]
      show _ ≤ w_C w - 1 + al.length + 2 * m
      omega
    · rw [en]
      show _ ≤ w_S w - 2 * m + 22 * al.length + 2 * (2 * m)
      omega
  · rw [if_pos_fun (c := ¬ (i_ (m : Int) = i_ (w_n w 3 0 0 : Nat))) (fun z => hc (by have := (i_eq (by omega) (by omega)).mp z; omega))]
    exact c_node44 (by omega) hS' (by omega) (by omega)
end ND2
