/-! ===== PARSERS, part 11: lists ===== -/
/-- a list's first one is linked from nowhere -/
def HD (S : pS) (f : Option Nat) : Prop := ∀ q, f = some q → q ∈ S.2.2.1.take S.2.2.2.1 ∧ NR S q
/-- and is new -/
def HDN (S0 S : pS) (f : Option Nat) : Prop := ∀ q, f = some q → q ∈ S.2.2.1.take S.2.2.2.1 ∧ NR S q ∧ q ∉ S0.2.2.1.take S0.2.2.2.1
/-- a list whose last one is still to be linked -/
def LIk (Pk : Int32 → Prop) (D : pD) (S : pS) (lo hi : Nat) (ol : pOL) (f : Option Nat) (fT : Int32) (b n dd d : Nat) : Prop := (∃ k l, (∃ e1, (ol.2.2.2.2.1 ≤ e1 ∧ e1 ≤ ol.2.2.2.2.2) ∧ LPz (vw S.1 S.2.1) S.2.2.2.2.2.2 S.2.2.2.2.2.1 k (ol.1, ol.2.1, ol.2.2.1, ol.2.2.2.1, ol.2.2.2.2.1, e1) l f fT (some b) (i_ n) ∧ PND D S lo hi (ol.1, ol.2.1, ol.2.2.1, ol.2.2.2.1, e1, ol.2.2.2.2.2) b n d) ∧ dsum l = dd ∧ ∀ q ∈ l, Pk (w_a S.2.1 12 0 26 q.1)) ∧ PND D S lo hi ol b n d ∧ NXo S b n ∧ Pk (w_a S.2.1 12 0 26 n)
abbrev LI := LIk (fun _ => True)
section LIS
variable {ex et : List Nat} {S S' S0 : pS} {D : pD} {K : pK} {p p0 q o o' oA m N n n2 b b2 lo hi lo2 hi2 r d d2 dd g : Nat} {w t w' : wS} {al : List Nat} {nu : pNz} {tn : Nat → Prop} {E E' : zE} {L L' : Nat} {ol : pOL} {f : Option Nat} {fT : Int32} {Q : kx_Rs → wS → Prop}
theorem VWa.fr {R : Prop} (hs : SY D K S p q o o') (hf : R) (hx : ∀ a ∈ ex, S.2.2.2.2.2.1 a = none) (ht : ∀ y ∈ et, ¬ S.2.2.2.2.2.2 y) (hR : R → FRr ex et S S' := by first | exact fun h => FRr.cb (FR.rr h) | exact FR.rr | exact id) : VWa (vw S.1 S.2.1) (vw S'.1 S'.2.1) S.2.2.2.2.2.2 S.2.2.2.2.2.1 := by
  have hf := hR hf
  have hgl := hs.gl
  refine ⟨fun a ha => ?_, fun k y hy hk => hf.2.2.2.1 y (hgl.2 y hy) (fun e => ht y e hy) k hk, funext (fun j => congrFun (hf.1.1.1 1 10 rfl 0).2.1.1 j)⟩
  cases e : S.2.2.2.2.2.1 a with
  | none => exact absurd e ha
  | some x =>
    obtain ⟨x1, x2, x3⟩ := x
    have := hf.2.2.1 a (hgl.1 a x1 x2 x3 e).1 (fun e2 => ha (hx a e2))
    exact ⟨funext (fun k => (this k).1), funext (fun k => (this k).2)⟩
theorem HD.fr {R : Prop} (h : HD S f) (hf : R) (hR : R → FRr ex et S S' := by first | exact fun h => FRr.cb (FR.rr h) | exact FR.rr | exact id) : HD S' f := fun q e => ⟨(hR hf).sub (h q e).1, (hR hf).nr (h q e).1 (h q e).2⟩
theorem HDN.hd (h : HDN S0 S f) : HD S f := fun q e => ⟨(h q e).1, (h q e).2.1⟩
theorem HDN.fr {R : Prop} (h : HDN S0 S f) (hf : R) (hR : R → FRr ex et S S' := by first | exact fun h => FRr.cb (FR.rr h) | exact FR.rr | exact id) : HDN S0 S' f := fun q e => ⟨(hR hf).sub (h q e).1, (hR hf).nr (h q e).1 (h q e).2.1, (h q e).2.2⟩
theorem HDN.up {SB : pS} (h : HDN SB S f) (hf : ∀ q, q ∈ S0.2.2.1.take S0.2.2.2.1 → q ∈ SB.2.2.1.take SB.2.2.2.1) : HDN S0 S f := fun q e => ⟨(h q e).1, (h q e).2.1, fun e2 => (h q e).2.2 (hf q e2)⟩
theorem HD.new (h : HD S f) (h2 : ∀ q, f = some q → q ∉ S0.2.2.1.take S0.2.2.2.1) : HDN S0 S f := fun q e => ⟨(h q e).1, (h q e).2, h2 q e⟩
theorem LPz.hd {V : pV} {k : Nat} {y : Int32} {l : List (Nat × Nat × Nat)} {x : Int32} (h : LPz V tn nu k ol l f x (some b) y) {q : Nat} (e : f = some q) : q = b ∨ nu q ≠ none := by
  cases l with
  | nil =>
    left
    have := h.1
    rw [e] at this
    cases this
    rfl
  | cons q0 r =>
    right
    have := h.1
    rw [e] at this
    cases this
    exact h.2.2.choose_spec.2.1.nux
theorem LIk.fr {R : Prop} {Pk : Int32 → Prop} (h : LIk Pk D S lo hi ol f fT b n dd d) (hs : SY D K S p q o o') (hf : R) (hR : R → FRr [] [] S S' := by first | exact fun h => FRr.cb (FR.rr h) | exact FR.rr | exact id) : LIk Pk D S' lo hi ol f fT b n dd d := by
  have hf := hR hf
  obtain ⟨⟨k, l, ⟨ex, hex, h1, h1b⟩, h2, h2k⟩, h3, h4, h5⟩ := h
  have hva := VWa.fr hs hf (fun _ h => absurd h List.not_mem_nil) (fun _ h => absurd h List.not_mem_nil)
  refine ⟨⟨k, l, ⟨ex, hex, LPz.up hva hf.2.2.2.2.1.1 hf.2.2.2.2.1.2.1 (Nat.le_refl _) h1 OLw.rf, h1b.fr hs hf List.not_mem_nil (fun _ h => absurd h List.not_mem_nil) (fun _ h => absurd h List.not_mem_nil)⟩, h2, fun q hq => ?_⟩, h3.fr hs hf List.not_mem_nil (fun _ h => absurd h List.not_mem_nil) (fun _ h => absurd h List.not_mem_nil), h4.fr hf h3.bm.1 h3.lt.1 List.not_mem_nil List.not_mem_nil, ?_⟩
  · have e : w_a S'.2.1 12 0 26 q.1 = w_a S.2.1 12 0 26 q.1 := hva.2.1 26 q.1 (LPz.mem h1 q hq).tnx (.inl (by decide))
    rw [e]
    exact h2k q hq
  · rw [hf.2.2.2.1 n h3.lt.1 List.not_mem_nil 26 (.inl (by decide))]
    exact h5
/-- a node's next one is written: it stays as it is otherwise -/
theorem PND.next (h : PND D (w, t, al, m, N, nu, tn) lo hi ol b n d) {v : Option Nat} {v' : Int32} : PND D (ws_p w 14 b 7 v, ws_a t 12 0 32 n v', al, m, N, nu, tn) lo hi ol b n d := by
  obtain ⟨hh, own, c, m', r, h1, h2, h3, h4, h5, h6, h7⟩ := h
  have hn : n ∈ own := h2 n h1.mem
  have ht : ∀ k y, k ≠ 32 → w_a (ws_a t 12 0 32 n v') 12 0 k y = w_a t 12 0 k y := by
    intro k y hk
    rw [Raa, if_neg (fun z => hk z.1)]
  have hv : VW (vw w t) (vw (ws_p w 14 b 7 v) (ws_a t 12 0 32 n v')) tn (fun x => x ∈ own) nu b m' := by
    refine ⟨⟨fun a ha => ⟨rfl, funext (fun k => ?_)⟩, fun k y hy hk => ?_, rfl⟩, ⟨fun _ _ => rfl, fun j hj => ?_⟩, fun k y _ hk _ => ht k y hk⟩
    · show w_p (ws_p w 14 b 7 v) 14 a k = w_p w 14 a k
      rw [Rpp, if_neg (fun z => ha (by rw [z.2.2]; exact h6.2))]
    · show w_a (ws_a t 12 0 32 n v') 12 0 k y = w_a t 12 0 k y
      rw [Raa, if_neg (fun z => (h3 n hn).1.1 (by rw [← z.2.2.2]; exact hy))]
    · show w_p (ws_p w 14 b 7 v) 14 b j = w_p w 14 b j
      rw [Rpp, if_neg (fun z => hj z.1)]
  exact ⟨hh, own, c, m', r, PCH.up (V := vw w t) (V' := vw (ws_p w 14 b 7 v) (ws_a t 12 0 32 n v')) (fun y _ k hk _ => ht k y hk) h1, h2, h3, h4.up hv (fun _ _ h => h) (fun _ h => h) (fun _ h => h) (Nat.le_refl _), h5, h6, h7.cv (ht 27 n (by decide)) (ht 26 m' (by decide))⟩
/-- another one stays where a node's next one is written, and it is done -/
theorem PND.oth (h : PND D (w, t, al, m, N, nu, tn) lo2 hi2 ol b2 n2 d2) (hb : b2 ≠ b) (hn : n < lo2) (hnb : nu b = none) (hnt : ¬ tn n) {v : Option Nat} {v' : Int32} {x : Nat × pR × Nat} {tn' : Nat → Prop} (h1t : ∀ y, tn y → tn' y) (h2t : ∀ y, tn' y → tn y ∨ (lo ≤ y ∧ y < hi)) (hhi : hi ≤ lo2) : PND D (ws_p w 14 b 7 v, ws_a t 12 0 32 n v', al, m, N, nuU nu b x, tn') lo2 hi2 ol b2 n2 d2 := by
  obtain ⟨hh, own, c, m', r, h1, h2, h3, h4, h5, h6, h7⟩ := h
  have ht : ∀ k y, y ∈ own → w_a (ws_a t 12 0 32 n v') 12 0 k y = w_a t 12 0 k y := by
    intro k y hy
    rw [Raa, if_neg (fun z => by have := (h3 y hy).1.2; have := z.2.2.2; omega)]
  have hv : VW (vw w t) (vw (ws_p w 14 b 7 v) (ws_a t 12 0 32 n v')) tn (fun x => x ∈ own) nu b2 m' := by
    refine ⟨⟨fun a ha => ⟨rfl, funext (fun k => ?_)⟩, fun k y hy hk => ?_, rfl⟩, ⟨fun _ _ => rfl, fun j hj => ?_⟩, fun k y hy hk _ => ht k y (by
      rcases hy with hy | hy
      · exact hy
      · rw [hy]
        exact h2 m' List.mem_cons_self)⟩
    · show w_p (ws_p w 14 b 7 v) 14 a k = w_p w 14 a k
      rw [Rpp, if_neg (fun z => ha (by rw [z.2.2]; exact hnb))]
    · show w_a (ws_a t 12 0 32 n v') 12 0 k y = w_a t 12 0 k y
      rw [Raa, if_neg (fun z => hnt (by rw [← z.2.2.2]; exact hy))]
    · show w_p (ws_p w 14 b 7 v) 14 b2 j = w_p w 14 b2 j
      rw [Rpp, if_neg (fun z => hb z.2.2)]
  refine ⟨hh, own, c, m', r, PCH.up (V := vw w t) (V' := vw (ws_p w 14 b 7 v) (ws_a t 12 0 32 n v')) (fun y hy k _ _ => ht k y (h2 y hy)) h1, h2, fun y hy => ⟨⟨fun e => ?_, (h3 y hy).1.2⟩, (h3 y hy).2⟩, h4.up hv (nle_nuU hnb) h1t (fun _ h => h) (Nat.le_refl _), h5, ⟨h6.1, ?_⟩, h7.cv (ht 27 n2 (h2 n2 h1.mem)) (ht 26 m' (h2 m' List.mem_cons_self))⟩
  · rcases h2t y e with h | h
    · exact (h3 y hy).1.1 h
    · have := (h3 y hy).1.2
      omega
  · show nuU nu b x b2 = none
    unfold nuU
    rw [if_neg hb]
    exact h6.2
theorem PND.low (h : PND D S lo2 hi ol b n d) (hlo : lo ≤ lo2) : PND D S lo hi ol b n d := by
  obtain ⟨hh, own, c, m', r, h1, h2, h3, h4, h5, h6, h7⟩ := h
  exact ⟨hh, own, c, m', r, h1, h2, fun x hx => ⟨⟨(h3 x hx).1.1, by have := (h3 x hx).1.2; omega⟩, (h3 x hx).2⟩, h4, h5, h6, h7⟩
theorem c_behind {x1 : Option Nat} (hL : 60 ≤ L) (hl : w_l w E.2.1 14 b) (h : Q (.inl (some (va_rf x1))) (ws_p w 14 b 7 x1)) : zw E L kt_M166 [va_rf (some b), va_rf x1] w Q := by
  refine zt_X5_behind_p0 (by omega) ?_
  simp only [zb_X5_behind_p0, zb_X5_behind_p9]
  rw [if_neg (by simp)]
  exact ⟨b, rfl, hl, h⟩
theorem c_behind0 {x1 : Option Nat} (hL : 60 ≤ L) (h : Q (.inl (some (va_rf x1))) w) : zw E L kt_M166 [va_rf none, va_rf x1] w Q := by
  refine zt_X5_behind_p0 (by omega) ?_
  simp only [zb_X5_behind_p0, zb_X5_behind_p9]
  rw [if_pos trivial]
  exact h
theorem t_chain {v : Int32} (hL : 60 ≤ L) (hn : n < 14000) (hl : w_n t 12 0 32 = 14000) (h : Q (.inl (some (.int v))) (ws_a t 12 0 32 n v)) : zw E L kt_M368 [.ref (w_adr E.2.1 12 0), .int (i_ n), .int v] t Q := by
  refine zt_X13_chain_p0 (by omega) ?_
  simp only [zb_X13_chain_p0, zb_X13_chain_p11]
  rw [if_neg (i_nn (by omega)), hl, i_nat' (by omega)]
  exact ⟨i_inb' (by omega) hn, h⟩
theorem t_chain0 {v : Int32} (hL : 60 ≤ L) (h : Q (.inl (some (.int v))) t) : zw E L kt_M368 [.ref (w_adr E.2.1 12 0), .int (-1), .int v] t Q := by
  refine zt_X13_chain_p0 (by omega) ?_
  simp only [zb_X13_chain_p0, zb_X13_chain_p11]
  rw [if_pos (by decide)]
  exact h
theorem vw_n2 {q : Nat} : vw (nx w p) (nx3 t q) = vw w t := (vw_nx (t := nx3 t q)).trans rfl
theorem PND.nx2 (h : PND D (w, t, al, m, N, nu, tn) lo hi ol b n d) : PND D (nx w p, nx3 t q, al, m, N, nu, tn) lo hi ol b n d := by
  obtain ⟨hh, own, c, m', r, h1, h2, h3, h4, h5, h6, h7⟩ := h
  refine ⟨hh, own, c, m', r, ?_, h2, h3, ?_, ?_, h6, h7⟩
  · show PCH (vw (nx w p) (nx3 t q)) c n m'
    rw [vw_n2]
    exact h1
  · show LFz D (vw (nx w p) (nx3 t q)) tn _ nu r d b m'
    rw [vw_n2]
    exact h4
  · show w_i (nx w p) 14 b 12 = _
    rw [nx_14]
    exact h5
theorem LIk.nx2 {Pk : Int32 → Prop} (h : LIk Pk D (w, t, al, m, N, nu, tn) lo hi ol f fT b n dd d) : LIk Pk D (nx w p, nx3 t q, al, m, N, nu, tn) lo hi ol f fT b n dd d := by
  obtain ⟨⟨k, l, ⟨ex, hex, h1, h1b⟩, h2, h2k⟩, h3, h4, h5⟩ := h
  refine ⟨⟨k, l, ⟨ex, hex, ?_, h1b.nx2⟩, h2, h2k⟩, h3.nx2, h4, h5⟩
  show LPz (vw (nx w p) (nx3 t q)) tn nu k (ol.1, ol.2.1, ol.2.2.1, ol.2.2.2.1, ol.2.2.2.2.1, ex) l f fT (some b) (i_ n)
  rw [vw_n2]
  exact h1
/-- the last one is linked to a new one -/
theorem HD.link {Pk : Int32 → Prop} (hd : HD (w, t, al, m, N, nu, tn) f) (h : LIk Pk D (w, t, al, m, N, nu, tn) lo hi ol f fT b n dd d) (hn2 : nu b2 = none) (hb : b2 ≠ b) {t' : wS} {N' : Nat} {nu' : pNz} {tn' : Nat → Prop} : HD (ws_p w 14 b 7 (some b2), t', al, m, N', nu', tn') f := fun q e => ⟨(hd q e).1, NRw.wp (hd q e).2 (.inr (fun e2 => by
  obtain ⟨⟨k, l, ⟨ex, hex, h1, h1b⟩, h2, h2k⟩, h3, h4, h5⟩ := h
  cases e2
  rcases LPz.hd h1 e with e3 | e3
  · exact hb e3
  · exact e3 hn2))⟩
theorem LIk.link {l1 : Option Int32} {cl1 bd1 bd2 s1 e1 s2 e2 : Nat} {g1 : Nat → Nat} {Pk : Int32 → Prop} (h : LIk Pk D (w, t, al, m, N, nu, tn) lo hi (l1, cl1, bd1, g1, s1, e1) f fT b n dd d) (hH : HY D K ex et S0 (w, t, al, m, N, nu, tn) p q o o') (hP : PND D (w, t, al, m, N, nu, tn) lo2 hi2 (l1, cl1, bd2, g1, s2, e2) b2 n2 d2) (hX : NXT (w, t, al, m, N, nu, tn) b2 n2) (hb : b2 ≠ b) (hhi : hi ≤ lo2) (hb0 : b ∉ S0.2.2.1.take S0.2.2.2.1) (hlo : S0.2.2.2.2.1 ≤ lo) (hk : Pk (w_a t 12 0 26 n2)) (hb20 : b2 ∉ S0.2.2.1.take S0.2.2.2.1) (bd3 : Nat := e2 - s1) (hes : e1 ≤ s2 := by omega) (hbd : bd1 ≤ bd3 ∧ bd2 ≤ bd3 := by omega) : ∃ x tn', HY D K ex et S0 (ws_p w 14 b 7 (some b2), ws_a t 12 0 32 n (i_ n2), al, m, N, nuU nu b x, tn') p q o o' ∧ LIk Pk D (ws_p w 14 b 7 (some b2), ws_a t 12 0 32 n (i_ n2), al, m, N, nuU nu b x, tn') lo2 hi2 (l1, cl1, bd3, g1, s1, e2) f fT b2 n2 (dd + d) d2 ∧ (∀ y, tn y → tn' y) ∧ (∀ y, tn' y → tn y ∨ (lo ≤ y ∧ y < hi)) ∧ VWa (vw w t) (vw (ws_p w 14 b 7 (some b2)) (ws_a t 12 0 32 n (i_ n2))) tn nu ∧ nle nu (nuU nu b x) := by
  obtain ⟨⟨k, l, ⟨ex, hex, h1, h1b⟩, h2, h2k⟩, h3, h4, h5⟩ := h
  have h1 : LPz (vw w t) tn nu k (l1, cl1, bd1, g1, s1, ex) l f fT (some b) (i_ n) := h1
  have h1b : PND D (w, t, al, m, N, nu, tn) lo hi (l1, cl1, bd1, g1, ex, e1) b n d := h1b
  have hbm := h3.bm
  have hnl := h3.lt
  have hn2 := hP.lt
  have H1 := (hH.wp (k := 7) (v := some b2) hbm.2 (fun e => absurd e hb0) (LKO.mk hP.bm.1 hX.2.2 hb20)).ta (k := 32) (n := n) (v := i_ n2) rfl hnl.2.2.1 (fun e => absurd e (by have := hnl.2.1; omega))
  have hva : VWa (vw w t) (vw (ws_p w 14 b 7 (some b2)) (ws_a t 12 0 32 n (i_ n2))) tn nu := VWa.mk (b := b) (n := n) (fun a h k => by simp only [Rii, Rgi, Rpi, Rai, Rbi, Rri, Rni, Rdi, Roi, Rti, Rzi, RCi, RSi, Rip, Rgp, Rpp, Rap, Rbp, Rrp, Rnp, Rdp, Rop, Rtp, Rzp, RCp, RSp]; simp [h]) (fun y h k => by simp only [Ria, Rga, Rpa, Raa, Rba, Rra, Rna, Rda, Roa, Rta, Rza, RCa, RSa]; simp [h]) rfl hbm.2 hnl.2.2.1
  obtain ⟨x, tn', r, H2, hC, hm1, hm2, hn0⟩ := H1.fin (h1b.next) hb0 hlo
  have hke : ∀ y, Pk (w_a t 12 0 26 y) → Pk (w_a (ws_a t 12 0 32 n (i_ n2)) 12 0 26 y) := fun y hy => by
    rw [Raa, if_neg (fun z => absurd z.1 (by decide))]
    exact hy
  have hse1 : s1 ≤ ex ∧ ex ≤ e1 := hex
  have hse2 := hP.se
  have hse3 := h1b.se
  have hP2 : PND D (w, t, al, m, N, nu, tn) lo2 hi2 (l1, cl1, bd3, g1, e1, e2) b2 n2 d2 := hP.wk (OLw.mk hbd.2 hes (Nat.le_refl _))
  refine ⟨x, tn', H2, ⟨⟨0, l ++ [(n, b, d)], ⟨e1, ⟨by show s1 ≤ e1; omega, by show e1 ≤ e2; omega⟩, ?_, hP2.oth hb (by omega) hbm.2 hnl.2.2.1 hm1 hm2 hhi⟩, by rw [dsum_snoc, h2], fun q hq => ?_⟩, (hP2.wk (OLw.mk (Nat.le_refl _) (by omega) (Nat.le_refl _))).oth hb (by omega) hbm.2 hnl.2.2.1 hm1 hm2 hhi, ?_, hke n2 hk⟩, hm1, hm2, hva, nle_nuU hbm.2⟩
  · have y1 : (vw (ws_p w 14 b 7 (some b2)) (ws_a t 12 0 32 n (i_ n2))).2.1 b 7 = some b2 := by
      show w_p (ws_p w 14 b 7 (some b2)) 14 b 7 = _
      rw [Rpp, if_pos ⟨rfl, rfl, rfl⟩]
    have y2 : (vw (ws_p w 14 b 7 (some b2)) (ws_a t 12 0 32 n (i_ n2))).2.2.1 32 n = i_ n2 := by
      show w_a (ws_a t 12 0 32 n (i_ n2)) 12 0 32 n = _
      rw [Raa, if_pos ⟨rfl, rfl, rfl, rfl⟩]
    have hs := LPz.snoc (k := 0) (bd := bd3) (q := (n, b, d)) (LPz.up (k' := 0) hva (nle_nuU (x := x) hbm.2) hm1 (Nat.le_refl _) h1 (OLw.mk (by omega) (Nat.le_refl _) (Nat.le_refl _))) (hC.up (k' := 0) (V' := vw (ws_p w 14 b 7 (some b2)) (ws_a t 12 0 32 n (i_ n2))) ⟨fun _ _ => ⟨rfl, rfl⟩, fun _ _ _ _ => rfl, rfl⟩ (fun _ _ h => h) (fun _ h => h) (Nat.le_refl _) (OLw.mk (by omega) (Nat.le_refl _) (Nat.le_refl _))) hse1.1
    rw [y1, y2] at hs
    exact hs
  · rcases List.mem_append.mp hq with e | e
    · exact hke _ (h2k q e)
    · simp at e
      subst e
      exact hke _ h5
  · refine ⟨?_, ?_⟩
    · show w_p (ws_p w 14 b 7 (some b2)) 14 b2 7 = none
      rw [Rpp, if_neg (fun z => hb z.2.2)]
      exact hX.1
    · show w_a (ws_a t 12 0 32 n (i_ n2)) 12 0 32 n2 = -1
      rw [Raa, if_neg (fun z => by have := z.2.2.2; omega)]
      exact hX.2.1
/-- the list ends -/
theorem LIk.doneK {Pk : Int32 → Prop} (h : LIk Pk D (w, t, al, m, N, nu, tn) lo hi ol f fT b n dd d) (hH : HY D K ex et S0 (w, t, al, m, N, nu, tn) p q o o') (hb0 : b ∉ S0.2.2.1.take S0.2.2.2.1) (hlo : S0.2.2.2.2.1 ≤ lo) : ∃ x tn' k, HY D K ex et S0 (w, t, al, m, N, nuU nu b x, tn') p q o o' ∧ (∃ l, LSz (vw w t) tn' (nuU nu b x) k ol l f fT ∧ dd + d = dsum l ∧ l ≠ [] ∧ ∀ q ∈ l, Pk (w_a t 12 0 26 q.1)) ∧ (∀ y, tn y → tn' y) ∧ (∀ y, tn' y → tn y ∨ (lo ≤ y ∧ y < hi)) := by
  obtain ⟨⟨k, l, ⟨ex, hex, h1, h1b⟩, h2, h2k⟩, h3, h4, h5⟩ := h
  have hbm := h3.bm
  obtain ⟨x, tn', r, H2, hC, hm1, hm2, hn0⟩ := hH.fin h1b hb0 hlo
  have hs := LPz.snoc (k := 0) (q := (n, b, d)) (LPz.up (k' := 0) (V' := vw w t) ⟨fun _ _ => ⟨rfl, rfl⟩, fun _ _ _ _ => rfl, rfl⟩ (nle_nuU (x := x) hbm.2) hm1 (Nat.le_refl _) h1 OLw.rf) (hC.up (k' := 0) (V' := vw w t) ⟨fun _ _ => ⟨rfl, rfl⟩, fun _ _ _ _ => rfl, rfl⟩ (fun _ _ h => h) (fun _ h => h) (Nat.le_refl _) OLw.rf) hex.1
  have e1 : (vw w t).2.1 b 7 = none := h4.1
  have e2 : (vw w t).2.2.1 32 n = -1 := h4.2
  rw [e1, e2] at hs
  exact ⟨x, tn', 0, H2, ⟨l ++ [(n, b, d)], hs, by rw [dsum_snoc, h2], by simp, fun q hq => (List.mem_append.mp hq).elim (h2k q) (fun e => by
    simp at e
    subst e
    exact h5)⟩, hm1, hm2⟩
theorem LIk.done {Pk : Int32 → Prop} (h : LIk Pk D (w, t, al, m, N, nu, tn) lo hi ol f fT b n dd d) (hH : HY D K ex et S0 (w, t, al, m, N, nu, tn) p q o o') (hb0 : b ∉ S0.2.2.1.take S0.2.2.2.1) (hlo : S0.2.2.2.2.1 ≤ lo) : ∃ x tn' k, HY D K ex et S0 (w, t, al, m, N, nuU nu b x, tn') p q o o' ∧ S1z (vw w t) tn' (nuU nu b x) k ol (dd + d) f fT ∧ (∀ y, tn y → tn' y) ∧ (∀ y, tn' y → tn y ∨ (lo ≤ y ∧ y < hi)) := by
  obtain ⟨x, tn', k, h1, ⟨l, h2, h3, h4, -⟩, h5, h6⟩ := h.doneK hH hb0 hlo
  exact ⟨x, tn', k, h1, ⟨l, h2, h3, h4⟩, h5, h6⟩
/-- a list of one -/
theorem NXT.xo (h : NXT S b n) : NXo S b n := ⟨h.1, h.2.1⟩
theorem HD.one (hP : PND D S lo hi ol b n d) (hX : NXT S b n) : HD S (some b) := fun q e => by
  cases e
  exact ⟨hP.bm.1, hX.2.2⟩
theorem LI.one (hP : PND D S lo hi ol b n d) (hX : NXo S b n) : LI D S lo hi ol (some b) (i_ n) b n 0 d := ⟨⟨0, [], ⟨ol.2.2.2.2.1, ⟨Nat.le_refl _, Nat.le_of_lt hP.se.1⟩, ⟨rfl, rfl⟩, hP⟩, rfl, fun _ h => absurd h List.not_mem_nil⟩, hP, hX, trivial⟩
theorem LIk.one {Pk : Int32 → Prop} (hP : PND D S lo hi ol b n d) (hX : NXo S b n) (hk : Pk (w_a S.2.1 12 0 26 n)) : LIk Pk D S lo hi ol (some b) (i_ n) b n 0 d := ⟨⟨0, [], ⟨ol.2.2.2.2.1, ⟨Nat.le_refl _, Nat.le_of_lt hP.se.1⟩, ⟨rfl, rfl⟩, hP⟩, rfl, fun _ h => absurd h List.not_mem_nil⟩, hP, hX, hk⟩
theorem S1z.v {V : pV} {k : Nat} {a : Option Nat} {x : Int32} (h : S1z V tn nu k ol d a x) : ∃ n b : Nat, x = i_ n ∧ a = some b ∧ tn n := by
  obtain ⟨l, h1, h2, h3⟩ := h
  cases l with
  | nil => exact absurd rfl h3
  | cons q r => exact ⟨q.1, q.2.1, h1.2.1, h1.1, h1.2.2.choose_spec.2.1.tnx⟩
theorem SLz.v {V : pV} {k : Nat} {a : Option Nat} {x : Int32} (h : SLz V tn nu k ol d a x) : (x = -1 ∧ a = none) ∨ ∃ n b : Nat, x = i_ n ∧ a = some b ∧ tn n := by
  obtain ⟨l, h1, h2⟩ := h
  cases l with
  | nil => exact .inl ⟨h1.2, h1.1⟩
  | cons q r => exact .inr ⟨q.1, q.2.1, h1.2.1, h1.1, h1.2.2.choose_spec.2.1.tnx⟩
theorem HY.tlt (h : HY D K ex et S0 (w, t, al, m, N, nu, tn) p q o o') (hn : tn n) : n < N := h.1.gl.2 n hn
/-- a list of expressions that is read -/
def GS (D : pD) (K : pK) (S : pS) (p : Nat) : pG := fun x v S2 p2 => (∃ k, S1z (vw S2.1 S2.2.1) S2.2.2.2.2.2.2 S2.2.2.2.2.2.1 k (oE K (kln K p) 0 p p2) 0 x v) ∧ kln K p2 = kln K p ∧ HDN S S2 x
/-- expressions with commas between -/
theorem p_list_loop {G : Nat} (IH : EXq D K E' G) (hL : lex oA + 40 ≤ L) (hL' : lex oA + 40 ≤ L') {SA : pS} {pA : Nat} : ∀ g w t al m N nu tn p cnt b n lo hi fn, SA.2.2.2.2.1 ≤ lo → K.length ≤ p + g → K.length ≤ p + 1 + G → HY D K [] [] SA (w, t, al, m, N, nu, tn) p p oA oA → LI D (w, t, al, m, N, nu, tn) lo hi (oE K (kln K pA) 0 pA p) f (i_ (fn : Nat)) b n 0 0 → fn < 14000 → kln K p = kln K pA → b ∉ SA.2.2.1.take SA.2.2.2.1 → HDN SA (w, t, al, m, N, nu, tn) f → (pA < p ∧ m + 4 * pA ≤ SA.2.2.2.1 + 4 * p ∧ N + 4 * pA ≤ SA.2.2.2.2.1 + 4 * p) → (m ≤ 4 * p + 8 ∧ N ≤ 4 * p + 8) → cnt ≤ p → PS (fun Q => zL_X5_row_p11 D.1 L Q 40 6000 f (some b) (i_ cnt) w) (fun Q => zL_X13_list_p7 E' L' Q (i_ fn) (i_ n) t) (PR D K [] [] SA pA oA true true 0 (GS D K SA pA)) := by
  have hlx := hL
  have hlx' := hL'
  unfold lex at hlx hlx'
  intro g
  induction g with
  | zero =>
    intro w t al m N nu tn p cnt b n lo hi fn hA hg _ H
    have := H.1.ca.2.2
    omega
  | succ g ih =>
    intro w t al m N nu tn p cnt b n lo hi fn hA hg hG H hI hfn hln hb0 hf0 hbd hmN hcnt
    have hpl := H.1.ta.lt
    have hal := H.alive
    have hnl := hI.2.1.lt
    refine PS_of (fun Q h => zt_X5_row_p11 (by omega) h) (fun Q h => zt_X13_list_p7 (by omega) h) ?_
    simp only [zb_X5_row_p11, zb_X13_list_p7, zb_X5_row_p33]
    refine PS_l1 (fun Q hq => c_is (c := 40) (v := 44) (by omega) H.1.ca rfl (by unfold wcd; omega) hq) ?_
    by_cases e : kk K p = 44
    · refine PS_ln (by rw [decide_eq_true e]; decide) ?_
      have hp1 := H.p1 (by omega)
      have hln1 := H.1.ln hp1 (by omega)
      refine PS_nxl (by omega) H (by omega) (fun H2 => ?_) (fun w' hd h76 => ?_)
      · refine PS_lp (fun z => by rw [show (6000 : Int32) = i_ 6000 from rfl] at z; have := (i_eq (by omega) (by omega)).mp z; omega) ?_
        refine PS_r1 (fun Q hq => t_may (v := 44) (by omega) H2.1.ta H2.1.krg rfl (by omega) (fun _ => hq) (fun h => absurd e h)) (PS_rn (by decide) ?_)
        have H3 := H2.tnx (by omega) (by omega)
        refine PR_c11 H.1.krg H3.2 (IH (L - 22) (L' - 22) _ _ _ _ _ _ _ _ _ (by unfold lex; omega) (by unfold lex; omega) H3.1 (by omega) ⟨by omega, by omega⟩) (fun a h => absurd h List.not_mem_nil) (fun a h => absurd h List.not_mem_nil) (fun x v w2 t2 al2 m2 N2 nu2 tn2 p2 hl H6 HS hb hgx => ?_) (fun v w2 t2 hv hv2 hd => ?_)
        · obtain ⟨b2, n2, rfl, rfl, hP, hX, hb2, hln2, hfk⟩ := hgx
          have hI3 : LI D (nx w p, nx3 t p, al, m, N, nu, tn) lo hi (oE K (kln K pA) 0 pA p) f (i_ fn) b n 0 0 := hI.nx2
          have hI6 := hI3.fr H3.1 HS.2
          have hbb : b2 ≠ b := fun e => hb2 (by rw [e]; exact hI.2.1.bm.1)
          have hbl : w_l w2 D.1.2.1 14 b := (H6.1.2.2.1.2.2.2.2.1 b (List.mem_of_mem_take hI6.2.1.bm.1)).1
          rw [hln1, hln] at hP
          have hlo2 : lo ≤ N := by have := hnl.2.1; have : n < N := hnl.1; omega
          obtain ⟨x', tn', H7, hI7, -⟩ := hI6.link H6 hP hX hbb hI.2.1.1 hb0 hA trivial (fun e => hb2 (H.2.sub e))
          refine PS_lr (fun Q hq => c_behind (by omega) hbl hq) ?_
          refine PS_r1 (fun Q hq => t_chain (by omega) hnl.2.2.2.1 H6.1.tl.2.2.2.2.2.2.1 hq) ?_
          rw [i_1, i_add, cN1]
          exact ih _ _ _ _ _ _ _ p2 (cnt + 1) b2 n2 _ _ fn (by have : SA.2.2.2.2.1 ≤ N := H.2.2.1.2.2.1; exact this) (by omega) (by omega) H7 hI7 hfn (by omega) (fun e => hb2 (H.2.sub e)) (((show HD (nx w p, nx3 t p, al, m, N, nu, tn) f from hf0.hd).fr HS.2).link hI6 hP.bm.2 hbb |>.new (fun q e => (hf0 q e).2.2)) ⟨by omega, by omega, by omega⟩ ⟨by omega, by omega⟩ (by omega)
        · have hvn : ∃ n2 : Nat, v = (n2 : Int) := ⟨v.toNat, by omega⟩
          obtain ⟨n2, rfl⟩ := hvn
          have hnn : n < 14000 := hnl.2.2.2.1
          refine eS_1 (fun Q hq => t_chain (by omega) hnn hd.2.2.tl.2.2.2.2.2.2.1 hq) ?_
          have hd2 := hd.ta (n := n) (k := 32) (v := i_ n2) rfl
          refine eS_l (fun Q h => zt_X13_list_p7 (by omega) h) ?_
          simp only [zb_X13_list_p7]
          refine eS_1 (fun Q hq => t_may (v := 44) (by omega) hd2.2.2.1 hd2.1.2 rfl (by omega) (fun e => by have := hd2.2.2.2.1; omega) (fun _ => hq)) (eS_p rfl ?_)
          exact hd2.ret rfl ⟨by omega, by omega⟩
      · refine eS_1 (fun Q hq => t_may (v := 44) (by omega) H.1.ta H.1.krg rfl (by omega) (fun _ => hq) (fun h => absurd e h)) (eS_n (by decide) ?_)
        exact dd_e (H.dd hd (by omega) (by omega) hal h76) (by omega)
    · refine PS_lp (by rw [decide_eq_false e]; decide) ?_
      refine PS_r1 (fun Q hq => t_may (v := 44) (by omega) H.1.ta H.1.krg rfl (by omega) (fun h => absurd h e) (fun _ => hq)) (PS_rp rfl ?_)
      obtain ⟨x', tn', k, H7, hS, -, -⟩ := hI.done H hb0 hA
      exact PS_ret (.inr ⟨f, i_ fn, al, m, N, nuU nu b x', tn', p, rfl, rfl, H7, hbd, ⟨k, hS⟩, hln, hf0⟩)
theorem p_row {G : Nat} (IH : EXq D K E' G) (hL : lex o + 60 ≤ L) (hL' : lex o + 60 ≤ L') (hS : SY D K (w, t, al, m, N, nu, tn) p p o o) (hg : K.length ≤ p + G) (hB : m ≤ 4 * p + 8 ∧ N ≤ 4 * p + 8) :
    PW w t (fun Q => zw D.1 L kt_M208 [.ref (w_adr D.1.2.1 4 0), .int 40, .int 6000] w Q) (fun Q => zw E' L' kt_M459 [.ref (w_adr E'.2.1 12 0)] t Q) (PR D K [] [] (w, t, al, m, N, nu, tn) p o true true 0 (GS D K (w, t, al, m, N, nu, tn) p)) := by
  have hpl := hS.ta.lt
  have ho20 := hS.2.1.1.2.2.2.2
  have hlx := hL
  have hlx' := hL'
  unfold lex at hlx hlx'
  have H : HY D K [] [] (w, t, al, m, N, nu, tn) (w, t, al, m, N, nu, tn) p p o o := ⟨hS, FR.rf hS.mle⟩
  refine PW_of' (fun Q h => zt_X5_row_p0 (by omega) h) (fun Q h => zt_X13_list_p0 (by omega) h) ?_
  simp only [zb_X5_row_p0, zb_X13_list_p0]
  refine PR_c11 hS.krg H.2 (IH (L - 22) (L' - 22) _ _ _ _ _ _ _ _ _ (by unfold lex; omega) (by unfold lex; omega) H.1 hg hB) (fun a h => absurd h List.not_mem_nil) (fun a h => absurd h List.not_mem_nil) (fun x v w2 t2 al2 m2 N2 nu2 tn2 p2 hl H6 HS hb hgx => ?_) (fun v w2 t2 hv hv2 hd => ?_)
  · obtain ⟨b2, n2, rfl, rfl, hP, hX, hb2, hln2, hfk⟩ := hgx
    have hn2 := hP.lt
    exact p_list_loop IH (by omega) (by omega) K.length _ _ _ _ _ _ _ p2 1 b2 n2 _ _ n2 (Nat.le_refl _) (by omega) (by omega) H6 (LI.one hP hX.xo) hn2.2.2.2.1 hln2 hb2 ((HD.one hP hX).new (fun q e => by cases e; exact hb2)) hb ⟨by omega, by omega⟩ (by omega)
  · refine eS_l (fun Q h => zt_X13_list_p7 (by omega) h) ?_
    simp only [zb_X13_list_p7]
    refine eS_1 (fun Q hq => t_may (v := 44) (by omega) hd.2.2.1 hd.1.2 rfl (by omega) (fun e => by have := hd.2.2.2.1; omega) (fun _ => hq)) (eS_p rfl ?_)
    exact hd.ret rfl ⟨hv, hv2⟩
theorem p_list {G : Nat} (IH : EXq D K E' G) (hL : lex o + 100 ≤ L) (hL' : lex o + 100 ≤ L') (hS : SY D K (w, t, al, m, N, nu, tn) p p o o) (hg : K.length ≤ p + G) (hB : m ≤ 4 * p + 8 ∧ N ≤ 4 * p + 8) :
    PW w t (fun Q => zw D.1 L kt_M178 [.ref (w_adr D.1.2.1 4 0)] w Q) (fun Q => zw E' L' kt_M459 [.ref (w_adr E'.2.1 12 0)] t Q) (PR D K [] [] (w, t, al, m, N, nu, tn) p o true true 0 (GS D K (w, t, al, m, N, nu, tn) p)) := by
  have hlx := hL
  have hlx' := hL'
  unfold lex at hlx hlx'
  refine PW_of' (A := fun Q => zb_X5_expressions_p0 D.1 L Q w) (B := fun Q => zw E' L' kt_M459 [.ref (w_adr E'.2.1 12 0)] t Q) (fun Q h => zt_X5_expressions_p0 (by omega) h) (fun _ h => h) ?_
  simp only [zb_X5_expressions_p0]
  refine PR_c1t hS.krg (FR.rf hS.mle) (p_row IH (by omega) (by omega) hS hg hB) (fun a h => absurd h List.not_mem_nil) (fun a h => absurd h List.not_mem_nil) (fun x v w2 t2 al2 m2 N2 nu2 tn2 p2 hl H6 HS hb hgx => ?_) (fun v w2 t2 hv hv2 hd => hd.ret rfl ⟨hv, hv2⟩)
  exact PS_ret (.inr ⟨x, v, al2, m2, N2, nu2, tn2, p2, rfl, rfl, HS, hb, hgx⟩)
end LIS
