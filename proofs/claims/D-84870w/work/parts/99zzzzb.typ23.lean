/-! ===== TYPES, part 23: MeetingHouse: entries ===== -/
section MYN
variable {D : pD} {V : pV} {tn : Nat → Prop} {nu : pNz} {Y : yV} {kr : List Nat} {G : tG} {F : tF} {SM : Nat → sF} {w w' w'' w1 : wS} {l y ty u : Int32} {f n m p o k s L q q2 A : Nat} {v T T' cw : Int} {C : Nat → Prop} {N N' : List Nat} {Q : kx_Rs → wS → Prop} {x a b : nF} {c : Bool} {X : String → wS → Prop} {S : sF} {X0 : Nat → nF}
theorem c_cnvE (I : MXI D V tn nu Y kr G F SM l X0 f) (hCn : ∀ c, C c → c ≠ 3) {e : ExT f} (hC : MYC D V nu Y kr F SM w) (hp : nu p ≠ none) (hN : p ∈ N) (hl : V.1 p 2 = l) (h3 : V.2.1 p 3 = some (xp e)) (hs : s < 3) (h8 : V.1 p 8 = i_ (s + 1 : Nat)) (h1 : RX D V tn nu Y kr l f C e) (hw : wd f e + 325 ≤ L) (hx : NRc w p x) (hfr : ∀ o ∈ nds f e, NRc w o (X0 o) ∧ o ∈ N ∧ o ≠ p) (hnd : (nds f e).Nodup) (hin : xp e ∈ nds f e) (hq : ∀ w', MYR N w (min (mxE SM G F (16 * l.toInt) X0 f e).2 (cvM (16 * l.toInt) x s (mxE SM G F (16 * l.toInt) X0 f e).1).2) w' → NRc w' p (cvM (16 * l.toInt) x s (mxE SM G F (16 * l.toInt) X0 f e).1).1 → Q (.inl none) w') : zw D.1 L kt_M262 [.ref (w_adr D.1.2.1 6 0), va_rf (some p)] w Q := by
  refine zt_X7_conversion_p0 (by omega) ?_
  unfold zb_X7_conversion_p0
  refine ⟨p, rfl, hC.al hp, ?_⟩
  rw [(hC.pt hp (by decide)).trans h3]
  refine I C e _ _ _ hCn hC h1 (fun o ho => (hfr o ho).1) hnd (by omega) (fun w2 g1 g2 => fun _ => ?_)
  have g3 : MYR N w (mxE SM G F (16 * l.toInt) X0 f e).2 w2 := g1.mono (fun o ho => (hfr o ho).2.1)
  exact c_cnv (w0 := w) (by omega) hC hp h1.un h3 hN (hfr _ hin).2.2 hl hs h8 g3 (hx.fx g1.1 (fun z => (hfr p z).2.2 rfl)) g2 hq
theorem c_oneE (I : MXI D V tn nu Y kr G F SM l X0 f) (hCn : ∀ c, C c → c ≠ 3) {e : ExT f} (hC : MYC D V nu Y kr F SM w) (hp : nu p ≠ none) (hN : p ∈ N) (hl : V.1 p 2 = l) (h3 : V.2.1 p 3 = some (xp e)) (hcw : wcd cw v) (hu : bUn v = true) (h8 : V.1 p 8 = i_ cw) (h1 : RX D V tn nu Y kr l f C e) (hw : wd f e + 325 ≤ L) (hx : NRc w p x) (hfr : ∀ o ∈ nds f e, NRc w o (X0 o) ∧ o ∈ N ∧ o ≠ p) (hnd : (nds f e).Nodup) (hin : xp e ∈ nds f e) (hq : ∀ w', MYR N w (min (mxE SM G F (16 * l.toInt) X0 f e).2 (onM (16 * l.toInt) x v (mxE SM G F (16 * l.toInt) X0 f e).1).2) w' → NRc w' p (onM (16 * l.toInt) x v (mxE SM G F (16 * l.toInt) X0 f e).1).1 → Q (.inl none) w') : zw D.1 L kt_M274 [.ref (w_adr D.1.2.1 6 0), va_rf (some p)] w Q := by
  refine zt_X7_one_p0 (by omega) ?_
  unfold zb_X7_one_p0
  refine ⟨p, rfl, hC.al hp, ?_⟩
  rw [(hC.pt hp (by decide)).trans h3]
  refine I C e _ _ _ hCn hC h1 (fun o ho => (hfr o ho).1) hnd (by omega) (fun w2 g1 g2 => fun _ => ?_)
  have g3 : MYR N w (mxE SM G F (16 * l.toInt) X0 f e).2 w2 := g1.mono (fun o ho => (hfr o ho).2.1)
  exact c_one (by omega) hC hp h1.un hN (hfr _ hin).2.2 hl hcw hu h8 g3 (hx.fx g1.1 (fun z => (hfr p z).2.2 rfl)) g2 hq
end MYN
