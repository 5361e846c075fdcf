/-! ===== TYPES, part 21: MeetingHouse: an element with an index ===== -/
section MYE
variable {D : pD} {V : pV} {tn : Nat → Prop} {nu : pNz} {Y : yV} {kr : List Nat} {G : tG} {F : tF} {SM : Nat → sF} {w w' w'' w1 : wS} {l y ty u : Int32} {f n m p o k s L q q2 A : Nat} {v T T' cw : Int} {C : Nat → Prop} {N N' : List Nat} {Q : kx_Rs → wS → Prop} {x a b : nF} {c : Bool} {X : String → wS → Prop} {S : sF} {X0 : Nat → nF}
theorem c_el1 (I : MXI D V tn nu Y kr G F SM l X0 f) (hCn : ∀ c, C c → c ≠ 3) {e : ExT f} (hC : MYC D V nu Y kr F SM w) (hp : nu p ≠ none) (hN : p ∈ N) (hl : V.1 p 2 = l) (h3 : V.2.1 p 3 = some (xp e)) (hs : s ∈ kr) (hA : Y.2.2.1 s = some A) (hY : Y.2.1 p = some A) (h1 : RX D V tn nu Y kr l f C e) (hw : wd f e + 400 ≤ L) (hx : NRc w p x) (hfr : ∀ o ∈ nds f e, NRc w o (X0 o) ∧ o ∈ N ∧ o ≠ p) (hnd : (nds f e).Nodup) (hin : xp e ∈ nds f e) (hq : ∀ w', MYR N w (min (mxE SM G F (16 * l.toInt) X0 f e).2 (ixM (16 * l.toInt) (SM s) x (mxE SM G F (16 * l.toInt) X0 f e).1).2) w' → NRc w' p (ixM (16 * l.toInt) (SM s) x (mxE SM G F (16 * l.toInt) X0 f e).1).1 → Q (.inl none) w') : zw D.1 L kt_M265 [.ref (w_adr D.1.2.1 6 0), va_rf (some p)] w Q := by
  have hne := h1.un
  refine zt_X7_element_p0 (by omega) ?_
  unfold zb_X7_element_p0 zb_X7_element_p16
  refine ⟨p, rfl, hC.al hp, ?_⟩
  rw [(hC.pt hp (by decide)).trans h3, if_pos (show ¬ (some (xp e) : Option Nat) = none from fun z => by cases z)]
  refine zt_X7_place_p0 (by omega) ?_
  unfold zb_X7_place_p0 zb_X7_place_p15
  refine ⟨p, rfl, hC.al hp, ?_⟩
  rw [(hC.pt hp (by decide)).trans h3, if_neg (show ¬ (some (xp e) : Option Nat) = none from fun z => by cases z)]
  refine I C e _ _ _ hCn hC h1 (fun o ho => (hfr o ho).1) hnd (by omega) (fun w2 g1 g2 => fun _ => ?_)
  have g3 : MYR N w (mxE SM G F (16 * l.toInt) X0 f e).2 w2 := g1.mono (fun o ho => (hfr o ho).2.1)
  have hC2 := hC.r g3
  have hxp : p ∉ nds f e := fun z => (hfr p z).2.2 rfl
  have hx2 := hx.fx g1.1 hxp
  have hep : xp e ≠ p := (hfr _ hin).2.2
  obtain ⟨k1, ⟨k2, k3, k4, k5, k6⟩, -⟩ := hC2.1.2.2 s hs A hA
  refine ⟨p, rfl, hC2.al hp, ?_⟩
  rw [hC2.smb hp, hY, (hC2.pt hp (by decide)).trans h3, if_pos (show ¬ (some A : Option Nat) = none from fun z => by cases z)]
  refine ⟨A, rfl, k1, ?_⟩
  rw [k2, k3, k5, if_pos (show ¬ (some (xp e) : Option Nat) = none from fun z => by cases z)]
  refine ⟨bI_01, ?_⟩
  have b5 := ((((g3.i (y := (SM s).1) hN (k := 17) rfl).i (y := bI (SM s).2.2.2.1) hN (k := 20) rfl).i (y := (SM s).2.1) hN (k := 18) rfl).i (y := 0) hN (k := 20) rfl).i (y := -1) hN (k := 18) rfl
  have n5 := ((((hx2.s17 (y := (SM s).1)).s20 (c := (SM s).2.2.2.1)).s18 (y := (SM s).2.1)).s20 (c := false)).s18 (y := -1)
  refine c_index (x := x) (by omega) hC hp hne hN hl h3 hs hA b5 n5 (g2.ot (p := p) (fun o ho k => ?_) hep) (fun w' r1 r2 => fun _ => fun _ => hq _ r1 r2)
  rw [Rii, if_neg (fun z => ho z.2.2), Rii, if_neg (fun z => ho z.2.2), Rii, if_neg (fun z => ho z.2.2), Rii, if_neg (fun z => ho z.2.2), Rii, if_neg (fun z => ho z.2.2)]
end MYE
