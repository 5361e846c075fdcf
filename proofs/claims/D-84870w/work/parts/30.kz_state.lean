/-! ===== RUNS OVER A TYPED STATE, part 1: the state, its rows, what it says of the heap ===== -/
/-- ints, longs, references (class, object, field); cells of int, long, reference arrays (class, object, field, place); lengths and addresses of arrays; who lies at an address; types of loose arrays; the heap's size; cells and slots that are left -/
abbrev wS : Type := (Nat → Nat → Nat → Int32) × (Nat → Nat → Nat → Int64) × (Nat → Nat → Nat → Option Nat) × (Nat → Nat → Nat → Nat → Int32) × (Nat → Nat → Nat → Nat → Int64) × (Nat → Nat → Nat → Nat → Option Nat) × (Nat → Nat → Nat → Nat) × (Nat → Nat → Nat → Nat) × (Nat → Option (Nat × Nat × Nat)) × (Nat → Nat) × Nat × Nat × Nat
def w_i (w : wS) (c o k : Nat) : Int32 := w.1 c o k
def w_g (w : wS) (c o k : Nat) : Int64 := w.2.1 c o k
def w_p (w : wS) (c o k : Nat) : Option Nat := w.2.2.1 c o k
def w_a (w : wS) (c o k j : Nat) : Int32 := w.2.2.2.1 c o k j
def w_b (w : wS) (c o k j : Nat) : Int64 := w.2.2.2.2.1 c o k j
def w_r (w : wS) (c o k j : Nat) : Option Nat := w.2.2.2.2.2.1 c o k j
def w_n (w : wS) (c o k : Nat) : Nat := w.2.2.2.2.2.2.1 c o k
def w_d (w : wS) (c o k : Nat) : Nat := w.2.2.2.2.2.2.2.1 c o k
def w_o (w : wS) (a : Nat) : Option (Nat × Nat × Nat) := w.2.2.2.2.2.2.2.2.1 a
def w_t (w : wS) (a : Nat) : Nat := w.2.2.2.2.2.2.2.2.2.1 a
def w_z (w : wS) : Nat := w.2.2.2.2.2.2.2.2.2.2.1
def w_C (w : wS) : Nat := w.2.2.2.2.2.2.2.2.2.2.2.1
def w_S (w : wS) : Nat := w.2.2.2.2.2.2.2.2.2.2.2.2
def w_k3 (c o k c' o' k' : Nat) : Bool := Nat.beq k' k && (Nat.beq c' c && Nat.beq o' o)
def w_u3 {α : Type} (f : Nat → Nat → Nat → α) (c o k : Nat) (v : α) : Nat → Nat → Nat → α := fun c' o' k' => bif w_k3 c o k c' o' k' then v else f c' o' k'
def w_u4 {α : Type} (f : Nat → Nat → Nat → Nat → α) (c o k j : Nat) (v : α) : Nat → Nat → Nat → Nat → α := fun c' o' k' j' => bif w_k3 c o k c' o' k' && Nat.beq j' j then v else f c' o' k' j'
def w_f4 {α : Type} (f : Nat → Nat → Nat → Nat → α) (c o k : Nat) (g : Nat → α) : Nat → Nat → Nat → Nat → α := fun c' o' k' j' => bif w_k3 c o k c' o' k' then g j' else f c' o' k' j'
/-- all fields of an object -/
def w_z3 {α : Type} (f : Nat → Nat → Nat → α) (c o : Nat) (v : α) : Nat → Nat → Nat → α := fun c' o' k' => bif Nat.beq c' c && Nat.beq o' o then v else f c' o' k'
def w_u1 {α : Type} (f : Nat → α) (a : Nat) (v : α) : Nat → α := fun q => bif Nat.beq q a then v else f q
def ws_i (w : wS) (c o k : Nat) (v : Int32) : wS := (w_u3 w.1 c o k v, w.2)
def ws_g (w : wS) (c o k : Nat) (v : Int64) : wS := (w.1, w_u3 w.2.1 c o k v, w.2.2)
def ws_p (w : wS) (c o k : Nat) (v : Option Nat) : wS := (w.1, w.2.1, w_u3 w.2.2.1 c o k v, w.2.2.2)
def ws_a (w : wS) (c o k j : Nat) (v : Int32) : wS := (w.1, w.2.1, w.2.2.1, w_u4 w.2.2.2.1 c o k j v, w.2.2.2.2)
def ws_b (w : wS) (c o k j : Nat) (v : Int64) : wS := (w.1, w.2.1, w.2.2.1, w.2.2.2.1, w_u4 w.2.2.2.2.1 c o k j v, w.2.2.2.2.2)
def ws_r (w : wS) (c o k j : Nat) (v : Option Nat) : wS := (w.1, w.2.1, w.2.2.1, w.2.2.2.1, w.2.2.2.2.1, w_u4 w.2.2.2.2.2.1 c o k j v, w.2.2.2.2.2.2)
/-- a row of ints gets other cells -/
def ws_A (w : wS) (c o k : Nat) (g : Nat → Int32) : wS := (w.1, w.2.1, w.2.2.1, w_f4 w.2.2.2.1 c o k g, w.2.2.2.2)
def ws_R (w : wS) (c o k : Nat) (g : Nat → Option Nat) : wS := (w.1, w.2.1, w.2.2.1, w.2.2.2.1, w.2.2.2.2.1, w_f4 w.2.2.2.2.2.1 c o k g, w.2.2.2.2.2.2)
/-- a new loose array: its type, how many -/
def ws_new (w : wS) (τ n : Nat) : wS := (w.1, w.2.1, w.2.2.1, w_f4 w.2.2.2.1 99 (w_z w) 0 (fun _ => 0), w_f4 w.2.2.2.2.1 99 (w_z w) 0 (fun _ => 0), w_f4 w.2.2.2.2.2.1 99 (w_z w) 0 (fun _ => none), w_u3 w.2.2.2.2.2.2.1 99 (w_z w) 0 n, w.2.2.2.2.2.2.2.1, w_u1 (w_o w) (w_z w) (some (99, w_z w, 0)), w_u1 (w_t w) (w_z w) τ, w_z w + 1, w_C w - 1, w_S w - n)
/-- a new object of a class with so many fields, all 0 -/
def ws_obj (w : wS) (c n : Nat) : wS := (w_z3 w.1 c (w_z w) 0, w_z3 w.2.1 c (w_z w) 0, w_z3 w.2.2.1 c (w_z w) none, w.2.2.2.1, w.2.2.2.2.1, w.2.2.2.2.2.1, w.2.2.2.2.2.2.1, w.2.2.2.2.2.2.2.1, w_u1 (w_o w) (w_z w) (some (c, w_z w, 999)), w_t w, w_z w + 1, w_C w - 1, w_S w - n)
/-- a loose array comes to a field -/
def ws_put (w : wS) (c o k a : Nat) : wS := (w.1, w.2.1, w.2.2.1, w_f4 w.2.2.2.1 c o k (w_a w 99 a 0), w_f4 w.2.2.2.2.1 c o k (w_b w 99 a 0), w_f4 w.2.2.2.2.2.1 c o k (w_r w 99 a 0), w_u3 w.2.2.2.2.2.2.1 c o k (w_n w 99 a 0), w_u3 w.2.2.2.2.2.2.2.1 c o k a, w_u1 (w_u1 (w_o w) (w_d w c o k) none) a (some (c, o, k)), w_t w, w_z w, w_C w, w_S w)
theorem w_beq {a b : Nat} : Nat.beq a b = true ↔ a = b := by
  constructor
  · intro h; exact Nat.eq_of_beq_eq_true h
  · intro h; subst h; exact Nat.beq_refl a
theorem w_k3_iff {c o k c' o' k' : Nat} : w_k3 c o k c' o' k' = true ↔ k' = k ∧ c' = c ∧ o' = o := by
  simp only [w_k3, Bool.and_eq_true, w_beq]
theorem w_u3_at {α : Type} (f : Nat → Nat → Nat → α) (c o k : Nat) (v : α) (c' o' k' : Nat) : w_u3 f c o k v c' o' k' = if k' = k ∧ c' = c ∧ o' = o then v else f c' o' k' := by
  unfold w_u3
  by_cases h : w_k3 c o k c' o' k' = true
  · rw [h, if_pos (w_k3_iff.mp h)]; rfl
  · rw [if_neg (fun q => h (w_k3_iff.mpr q)), Bool.eq_false_iff.mpr h]; rfl
theorem w_u4_at {α : Type} (f : Nat → Nat → Nat → Nat → α) (c o k j : Nat) (v : α) (c' o' k' j' : Nat) : w_u4 f c o k j v c' o' k' j' = if k' = k ∧ c' = c ∧ o' = o ∧ j' = j then v else f c' o' k' j' := by
  unfold w_u4
  by_cases h : (w_k3 c o k c' o' k' && Nat.beq j' j) = true
  · have h2 := h
    rw [Bool.and_eq_true, w_k3_iff, w_beq] at h2
    rw [h, if_pos ⟨h2.1.1, h2.1.2.1, h2.1.2.2, h2.2⟩]; rfl
  · rw [if_neg (fun q => h (by rw [Bool.and_eq_true, w_k3_iff, w_beq]; exact ⟨⟨q.1, q.2.1, q.2.2.1⟩, q.2.2.2⟩)), Bool.eq_false_iff.mpr h]; rfl
theorem w_f4_at {α : Type} (f : Nat → Nat → Nat → Nat → α) (c o k : Nat) (g : Nat → α) (c' o' k' j' : Nat) : w_f4 f c o k g c' o' k' j' = if k' = k ∧ c' = c ∧ o' = o then g j' else f c' o' k' j' := by
  unfold w_f4
  by_cases h : w_k3 c o k c' o' k' = true
  · rw [h, if_pos (w_k3_iff.mp h)]; rfl
  · rw [if_neg (fun q => h (w_k3_iff.mpr q)), Bool.eq_false_iff.mpr h]; rfl
theorem w_z3_at {α : Type} (f : Nat → Nat → Nat → α) (c o : Nat) (v : α) (c' o' k' : Nat) : w_z3 f c o v c' o' k' = if c' = c ∧ o' = o then v else f c' o' k' := by
  unfold w_z3
  by_cases h : (Nat.beq c' c && Nat.beq o' o) = true
  · have h2 := h
    rw [Bool.and_eq_true, w_beq, w_beq] at h2
    rw [h, if_pos h2]; rfl
  · rw [if_neg (fun q => h (by rw [Bool.and_eq_true, w_beq, w_beq]; exact q)), Bool.eq_false_iff.mpr h]; rfl
theorem w_u1_at {α : Type} (f : Nat → α) (a : Nat) (v : α) (q : Nat) : w_u1 f a v q = if q = a then v else f q := by
  unfold w_u1
  by_cases h : Nat.beq q a = true
  · rw [h, if_pos (w_beq.mp h)]; rfl
  · rw [if_neg (fun z => h (w_beq.mpr z)), Bool.eq_false_iff.mpr h]; rfl
/-- fields and arrays by class (printed): what a field is (0 int, 1 long, 2 a reference, 3 an array, 4 + 4 * class + number: a fixed object), an array's type, the classes' numbers of fields, the fixed objects -/
def w_dyn (c : Nat) : Bool := (Nat.ble 14 c && Nat.ble c 17) || ((Nat.beq c 19 || Nat.beq c 20) || Nat.beq c 99)
def w_adr (ob : Nat → Nat) (c o : Nat) : Nat := bif w_dyn c then o else ob (4 * c + o)
abbrev wT : Type := (Nat → Nat → Nat) × (Nat → Nat → Nat) × (Nat → Nat) × (Nat → Nat → Bool)
def w_val (G : wT) (ob : Nat → Nat) (w : wS) (c o k : Nat) : Value := match G.1 c k with
  | 0 => .int (w_i w c o k)
  | 1 => .long (w_g w c o k)
  | 2 => va_rf (w_p w c o k)
  | 3 => .ref (w_d w c o k)
  | x + 4 => .ref (ob x)
def w_arr (w : wS) (τ c o k : Nat) : kx_E := .inl (τ, w_n w c o k, match τ with
  | 0 => .inl (w_a w c o k)
  | 1 => .inl (w_a w c o k)
  | 2 => .inl (w_a w c o k)
  | 3 => .inr (.inl (w_b w c o k))
  | _ => .inr (.inr (.inr (.inr (w_r w c o k)))))
def w_fs (G : wT) (ob : Nat → Nat) (w : wS) (c o : Nat) : List Value := (List.range (G.2.2.1 c)).map (w_val G ob w c o)
def w_cont (G : wT) (ob : Nat → Nat) (w : wS) (q : Nat × Nat × Nat) : kx_E := if q.2.2 = 999 then .inr (q.1, w_fs G ob w q.1 q.2.1) else w_arr w (if q.1 = 99 then w_t w q.2.1 else G.2.1 q.1 q.2.2) q.1 q.2.1 q.2.2
/-- arrays that stay where they are; fields that are arrays; where an array lies -/
def w_fa (G : wT) (c k : Nat) : Bool := Nat.beq (G.1 c k) (1004 + 256 * c + k)
def w_ar (G : wT) (c k : Nat) : Bool := Nat.beq (G.1 c k) 3 || w_fa G c k
def w_ad (G : wT) (ob : Nat → Nat) (w : wS) (c o k : Nat) : Nat := bif w_fa G c k then ob (1000 + 256 * c + k) else w_d w c o k
/-- where an owner lies -/
def w_at (G : wT) (ob : Nat → Nat) (w : wS) (q : Nat × Nat × Nat) : Nat := if q.2.2 = 999 ∨ q.1 = 99 then w_adr ob q.1 q.2.1 else w_ad G ob w q.1 q.2.1 q.2.2
def w_l (w : wS) (ob : Nat → Nat) (c o : Nat) : Prop := w_o w (w_adr ob c o) = some (c, o, 999)
/-- the heap is as the state says; outside of it as ot says -/
def wR (V : kx_V) (G : wT) (ob : Nat → Nat) (ot : Nat → Option kx_E) (w : wS) (X : kx_X) : Prop := X.2 = w_z w ∧ kx_lo V ≤ w_z w ∧ (∀ a, a < kx_lo V → X.1 a = none) ∧ (∀ a e, ot a = some e → X.1 a = some e ∧ w_o w a = none ∧ a < w_z w) ∧ (∀ a q, w_o w a = some q → a = w_at G ob w q ∧ kx_lo V ≤ a ∧ a < w_z w ∧ X.1 a = some (w_cont G ob w q)) ∧ (∀ c o, G.2.2.2 c o = true → w_l w ob c o) ∧ (∀ c o k, w_l w ob c o → w_ar G c k = true → w_o w (w_ad G ob w c o k) = some (c, o, k)) ∧ (∀ c k, w_ar G c k = true → k ≠ 999 ∧ c ≠ 99)
/-- objects stay -/
def wle (w w' : wS) : Prop := ∀ a c o, w_o w a = some (c, o, 999) → w_o w' a = some (c, o, 999)
theorem wle_rf (w : wS) : wle w w := fun _ _ _ h => h
theorem wle_tr {w w' w'' : wS} (h : wle w w') (h' : wle w' w'') : wle w w'' := fun _ _ _ q => h' _ _ _ (h _ _ _ q)
theorem w_l_le {w w' : wS} {ob : Nat → Nat} {c o : Nat} (h : w_l w ob c o) (hl : wle w w') : w_l w' ob c o := hl _ _ _ h
section WR
variable {V : kx_V} {G : wT} {ob : Nat → Nat} {ot : Nat → Option kx_E} {w : wS} {X : kx_X}
theorem wR.live (h : wR V G ob ot w X) {c o : Nat} (hl : G.2.2.2 c o = true ∨ w_l w ob c o) : w_l w ob c o := hl.elim (h.2.2.2.2.2.1 c o) id
theorem wR.obj (h : wR V G ob ot w X) {c o : Nat} (hl : G.2.2.2 c o = true ∨ w_l w ob c o) : X.1 (w_adr ob c o) = some (.inr (c, w_fs G ob w c o)) := by
  have h1 := (h.2.2.2.2.1 _ _ (h.live hl)).2.2.2
  rw [h1]
  unfold w_cont
  rw [if_pos rfl]
theorem wR.lo (h : wR V G ob ot w X) {a : Nat} {q : Nat × Nat × Nat} (hq : w_o w a = some q) : kx_lo V ≤ a := (h.2.2.2.2.1 _ _ hq).2.1
theorem w_fs_at {c o k : Nat} (hk : k < G.2.2.1 c) : (w_fs G ob w c o)[k]? = some (w_val G ob w c o k) := by
  unfold w_fs
  rw [List.getElem?_map, List.getElem?_range hk]
  rfl
theorem w_fs_len {c o : Nat} : (w_fs G ob w c o).length = G.2.2.1 c := by
  unfold w_fs
  rw [List.length_map, List.length_range]
/-- a loose array, or an object's own one -/
def w_own (w : wS) (G : wT) (ob : Nat → Nat) (τ c o k : Nat) : Prop := (c = 99 ∧ k = 0 ∧ w_o w o = some (99, o, 0) ∧ w_t w o = τ) ∨ ((G.2.2.2 c o = true ∨ w_l w ob c o) ∧ w_ar G c k = true ∧ G.2.1 c k = τ)
/-- an array's address -/
def w_aa (G : wT) (ob : Nat → Nat) (w : wS) (c o k : Nat) : Nat := bif Nat.beq c 99 then o else w_ad G ob w c o k
theorem wR.own (h : wR V G ob ot w X) {τ c o k : Nat} (ho : w_own w G ob τ c o k) : w_o w (w_aa G ob w c o k) = some (c, o, k) ∧ X.1 (w_aa G ob w c o k) = some (w_arr w τ c o k) ∧ (k ≠ 999) := by
  rcases ho with ⟨rfl, rfl, h1, h2⟩ | ⟨h1, h2, h3⟩
  · have e : w_aa G ob w 99 o 0 = o := rfl
    rw [e]
    refine ⟨h1, ?_, by decide⟩
    rw [(h.2.2.2.2.1 _ _ h1).2.2.2]
    unfold w_cont
    rw [if_neg (show ¬ (0 : Nat) = 999 by decide), if_pos rfl, h2]
  · have h4 := h.2.2.2.2.2.2.1 c o k (h.live h1) h2
    have h5 := h.2.2.2.2.2.2.2 c k h2
    have e : w_aa G ob w c o k = w_ad G ob w c o k := by
      unfold w_aa
      cases hb : Nat.beq c 99 with
      | false => rfl
      | true => exact absurd (w_beq.mp hb) h5.2
    rw [e]
    refine ⟨h4, ?_, h5.1⟩
    rw [(h.2.2.2.2.1 _ _ h4).2.2.2]
    unfold w_cont
    rw [if_neg h5.1, if_neg h5.2, h3]
end WR
section WS
variable {V : kx_V} {G : wT} {ob : Nat → Nat} {ot : Nat → Option kx_E} {w w' : wS} {X : kx_X}
theorem w_ad_eq (hd : ∀ c o k, w_d w' c o k = w_d w c o k) (c o k : Nat) : w_ad G ob w' c o k = w_ad G ob w c o k := by
  unfold w_ad
  rw [hd]
theorem w_at_eq (hd : ∀ c o k, w_d w' c o k = w_d w c o k) (q : Nat × Nat × Nat) : w_at G ob w' q = w_at G ob w q := by
  unfold w_at
  rw [w_ad_eq hd]
/-- what one owner has changes -/
theorem wR.set (h : wR V G ob ot w X) (hz : w_z w' = w_z w) (ho : ∀ a, w_o w' a = w_o w a) (hd : ∀ c o k, w_d w' c o k = w_d w c o k) {q : Nat × Nat × Nat} {a : Nat} (hq : w_o w a = some q) (hc : ∀ q', q' ≠ q → w_cont G ob w' q' = w_cont G ob w q') : wR V G ob ot w' (kx_set X a (w_cont G ob w' q)) := by
  have hl : ∀ c o, w_l w' ob c o ↔ w_l w ob c o := by
    intro c o
    unfold w_l
    rw [ho]
  refine ⟨by rw [hz]; exact h.1, by rw [hz]; exact h.2.1, fun b hb => ?_, fun b e hb => ?_, fun b p hb => ?_, fun c o hs => (hl c o).mpr (h.2.2.2.2.2.1 c o hs), fun c o k h1 h2 => ?_, h.2.2.2.2.2.2.2⟩
  · have : b ≠ a := by
      have := (h.2.2.2.2.1 _ _ hq).2.1
      omega
    show (if b = a then _ else X.1 b) = none
    rw [if_neg this]
    exact h.2.2.1 b hb
  · obtain ⟨h1, h2, h3⟩ := h.2.2.2.1 b e hb
    have : b ≠ a := by
      intro e2
      rw [e2, hq] at h2
      cases h2
    refine ⟨?_, by rw [ho]; exact h2, by rw [hz]; exact h3⟩
    show (if b = a then _ else X.1 b) = some e
    rw [if_neg this]
    exact h1
  · rw [ho] at hb
    obtain ⟨h1, h2, h3, h4⟩ := h.2.2.2.2.1 b p hb
    refine ⟨by rw [w_at_eq hd]; exact h1, h2, by rw [hz]; exact h3, ?_⟩
    show (if b = a then _ else X.1 b) = _
    by_cases hba : b = a
    · rw [if_pos hba]
      rw [hba, hq] at hb
      cases hb
      rfl
    · rw [if_neg hba, h4, hc]
      intro e2
      subst e2
      exact hba (h1.trans (h.2.2.2.2.1 a _ hq).1.symm)
  · rw [ho, w_ad_eq hd]
    exact h.2.2.2.2.2.2.1 c o k ((hl c o).mp h1) h2
theorem w_fs_congr {c o : Nat} (h : ∀ k, w_val G ob w' c o k = w_val G ob w c o k) : w_fs G ob w' c o = w_fs G ob w c o := by
  unfold w_fs
  congr 1
  funext k
  exact h k
theorem w_fs_set {c o k : Nat} {v : Value} (hk : k < G.2.2.1 c) (h : ∀ j, j ≠ k → w_val G ob w' c o j = w_val G ob w c o j) (hv : w_val G ob w' c o k = v) : w_fs G ob w' c o = (w_fs G ob w c o).set k v := by
  apply List.ext_getElem?
  intro j
  by_cases hj : j < G.2.2.1 c
  · rw [w_fs_at hj]
    by_cases hjk : j = k
    · subst hjk
      rw [List.getElem?_set_self (by rw [w_fs_len]; exact hj), hv]
    · rw [List.getElem?_set_ne (fun e => hjk e.symm), w_fs_at hj, h j hjk]
  · rw [List.getElem?_eq_none (by rw [w_fs_len]; omega), List.getElem?_eq_none (by rw [List.length_set, w_fs_len]; omega)]
theorem w_u3_ne {α : Type} (f : Nat → Nat → Nat → α) {c o k : Nat} (v : α) {c' o' k' : Nat} (h : (c', o', k') ≠ (c, o, k)) : w_u3 f c o k v c' o' k' = f c' o' k' := by
  rw [w_u3_at, if_neg]
  rintro ⟨rfl, rfl, rfl⟩
  exact h rfl
theorem w_u3_eq {α : Type} (f : Nat → Nat → Nat → α) (c o k : Nat) (v : α) : w_u3 f c o k v c o k = v := by
  rw [w_u3_at, if_pos ⟨rfl, rfl, rfl⟩]
theorem w_obj_ne {c o : Nat} {q : Nat × Nat × Nat} (hq : q ≠ (c, o, 999)) (h9 : q.2.2 = 999) (k k' : Nat) : (q.1, q.2.1, k') ≠ (c, o, k) := by
  intro e
  apply hq
  obtain ⟨q1, q2, q3⟩ := q
  simp only [Prod.mk.injEq] at e
  simp only at h9
  rw [e.1, e.2.1, h9]
/-- an object's field changes -/
theorem wR.seti (h : wR V G ob ot w X) {c o k : Nat} (hl : G.2.2.2 c o = true ∨ w_l w ob c o) (hk : k < G.2.2.1 c) (hf : G.1 c k = 0) (v : Int32) : wR V G ob ot (ws_i w c o k v) (kx_set X (w_adr ob c o) (.inr (c, (w_fs G ob w c o).set k (.int v)))) := by
  have h1 := h.set (w' := ws_i w c o k v) rfl (fun _ => rfl) (fun _ _ _ => rfl) (h.live hl) (by
    intro q hq
    unfold w_cont
    by_cases h9 : q.2.2 = 999
    · rw [if_pos h9, if_pos h9, w_fs_congr]
      intro j
      unfold w_val
      split
      · exact congrArg Value.int (w_u3_ne _ _ (w_obj_ne hq h9 k j))
      all_goals rfl
    · rw [if_neg h9, if_neg h9]
      rfl)
  have e : w_cont G ob (ws_i w c o k v) (c, o, 999) = .inr (c, (w_fs G ob w c o).set k (.int v)) := by
    unfold w_cont
    rw [if_pos rfl]
    congr 2
    refine w_fs_set hk (fun j hj => ?_) ?_
    · unfold w_val
      split
      · exact congrArg Value.int (w_u3_ne _ _ (by simp [hj]))
      all_goals rfl
    · unfold w_val
      rw [hf]
      exact congrArg Value.int (w_u3_eq _ _ _ _ _)
  rw [e] at h1
  exact h1
theorem wR.setg (h : wR V G ob ot w X) {c o k : Nat} (hl : G.2.2.2 c o = true ∨ w_l w ob c o) (hk : k < G.2.2.1 c) (hf : G.1 c k = 1) (v : Int64) : wR V G ob ot (ws_g w c o k v) (kx_set X (w_adr ob c o) (.inr (c, (w_fs G ob w c o).set k (.long v)))) := by
  have h1 := h.set (w' := ws_g w c o k v) rfl (fun _ => rfl) (fun _ _ _ => rfl) (h.live hl) (by
    intro q hq
    unfold w_cont
    by_cases h9 : q.2.2 = 999
    · rw [if_pos h9, if_pos h9, w_fs_congr]
      intro j
      unfold w_val
      split
      · rfl
      · exact congrArg Value.long (w_u3_ne _ _ (w_obj_ne hq h9 k j))
      all_goals rfl
    · rw [if_neg h9, if_neg h9]
      rfl)
  have e : w_cont G ob (ws_g w c o k v) (c, o, 999) = .inr (c, (w_fs G ob w c o).set k (.long v)) := by
    unfold w_cont
    rw [if_pos rfl]
    congr 2
    refine w_fs_set hk (fun j hj => ?_) ?_
    · unfold w_val
      split
      · rfl
      · exact congrArg Value.long (w_u3_ne _ _ (by simp [hj]))
      all_goals rfl
    · unfold w_val
      rw [hf]
      exact congrArg Value.long (w_u3_eq _ _ _ _ _)
  rw [e] at h1
  exact h1
theorem wR.setp (h : wR V G ob ot w X) {c o k : Nat} (hl : G.2.2.2 c o = true ∨ w_l w ob c o) (hk : k < G.2.2.1 c) (hf : G.1 c k = 2) (v : Option Nat) : wR V G ob ot (ws_p w c o k v) (kx_set X (w_adr ob c o) (.inr (c, (w_fs G ob w c o).set k (va_rf v)))) := by
  have h1 := h.set (w' := ws_p w c o k v) rfl (fun _ => rfl) (fun _ _ _ => rfl) (h.live hl) (by
    intro q hq
    unfold w_cont
    by_cases h9 : q.2.2 = 999
    · rw [if_pos h9, if_pos h9, w_fs_congr]
      intro j
      unfold w_val
      split
      · rfl
      · rfl
      · exact congrArg va_rf (w_u3_ne _ _ (w_obj_ne hq h9 k j))
      all_goals rfl
    · rw [if_neg h9, if_neg h9]
      rfl)
  have e : w_cont G ob (ws_p w c o k v) (c, o, 999) = .inr (c, (w_fs G ob w c o).set k (va_rf v)) := by
    unfold w_cont
    rw [if_pos rfl]
    congr 2
    refine w_fs_set hk (fun j hj => ?_) ?_
    · unfold w_val
      split
      · rfl
      · rfl
      · exact congrArg va_rf (w_u3_ne _ _ (by simp [hj]))
      all_goals rfl
    · unfold w_val
      rw [hf]
      exact congrArg va_rf (w_u3_eq _ _ _ _ _)
  rw [e] at h1
  exact h1
theorem w_f4_ne {α : Type} (f : Nat → Nat → Nat → Nat → α) {c o k : Nat} (g : Nat → α) {c' o' k' : Nat} (h : (c', o', k') ≠ (c, o, k)) : w_f4 f c o k g c' o' k' = f c' o' k' := by
  funext j
  rw [w_f4_at, if_neg]
  rintro ⟨rfl, rfl, rfl⟩
  exact h rfl
theorem w_f4_eq {α : Type} (f : Nat → Nat → Nat → Nat → α) (c o k : Nat) (g : Nat → α) : w_f4 f c o k g c o k = g := by
  funext j
  rw [w_f4_at, if_pos ⟨rfl, rfl, rfl⟩]
theorem w_u4_ne {α : Type} (f : Nat → Nat → Nat → Nat → α) {c o k j : Nat} (v : α) {c' o' k' : Nat} (h : (c', o', k') ≠ (c, o, k)) : w_u4 f c o k j v c' o' k' = f c' o' k' := by
  funext j'
  rw [w_u4_at, if_neg]
  rintro ⟨rfl, rfl, rfl, -⟩
  exact h rfl
theorem w_u4_eq {α : Type} (f : Nat → Nat → Nat → Nat → α) (c o k j : Nat) (v : α) : w_u4 f c o k j v c o k = fun j' => if j' = j then v else f c o k j' := by
  funext j'
  rw [w_u4_at]
  by_cases hj : j' = j
  · rw [if_pos ⟨rfl, rfl, rfl, hj⟩, if_pos hj]
  · rw [if_neg (fun q => hj q.2.2.2), if_neg hj]
/-- cells of an array change -/
theorem wR.setA (h : wR V G ob ot w X) {τ c o k : Nat} (ho : w_own w G ob τ c o k) (h3 : τ < 3) {w' : wS} (e2 : w'.2.2.2.2 = w.2.2.2.2) (e1 : w'.1 = w.1 ∧ w'.2.1 = w.2.1 ∧ w'.2.2.1 = w.2.2.1) (hne : ∀ c' o' k', (c', o', k') ≠ (c, o, k) → w_a w' c' o' k' = w_a w c' o' k') : wR V G ob ot w' (kx_set X (w_aa G ob w c o k) (.inl (τ, w_n w c o k, .inl (w_a w' c o k)))) := by
  obtain ⟨g1, g2, g3⟩ := h.own ho
  have en : ∀ c o k, w_n w' c o k = w_n w c o k := fun c o k => by show w'.2.2.2.2.2.2.1 c o k = _; rw [e2]; rfl
  have et : ∀ a, w_t w' a = w_t w a := fun a => by show w'.2.2.2.2.2.2.2.2.2.1 a = _; rw [e2]; rfl
  have eb : w_b w' = w_b w := by funext c o k j; show w'.2.2.2.2.1 c o k j = _; rw [e2]; rfl
  have er : w_r w' = w_r w := by funext c o k j; show w'.2.2.2.2.2.1 c o k j = _; rw [e2]; rfl
  have ed : ∀ c o k, w_d w' c o k = w_d w c o k := fun c o k => by show w'.2.2.2.2.2.2.2.1 c o k = _; rw [e2]; rfl
  have eo : ∀ a, w_o w' a = w_o w a := fun a => by show w'.2.2.2.2.2.2.2.2.1 a = _; rw [e2]; rfl
  have ez : w_z w' = w_z w := by show w'.2.2.2.2.2.2.2.2.2.2.1 = _; rw [e2]; rfl
  have hv : ∀ c o j, w_val G ob w' c o j = w_val G ob w c o j := by
    intro c o j
    unfold w_val
    split
    · show Value.int (w'.1 c o j) = _; rw [e1.1]; rfl
    · show Value.long (w'.2.1 c o j) = _; rw [e1.2.1]; rfl
    · show va_rf (w'.2.2.1 c o j) = _; rw [e1.2.2]; rfl
    · rw [ed]
    · rfl
  have h1 := h.set (w' := w') ez eo ed g1 (by
    intro q hq
    unfold w_cont
    by_cases h9 : q.2.2 = 999
    · rw [if_pos h9, if_pos h9, w_fs_congr (fun j => hv _ _ j)]
    · rw [if_neg h9, if_neg h9, et]
      unfold w_arr
      rw [en, hne q.1 q.2.1 q.2.2 hq, eb, er])
  have e : w_cont G ob w' (c, o, k) = .inl (τ, w_n w c o k, .inl (w_a w' c o k)) := by
    unfold w_cont
    rw [if_neg g3]
    have e9 : (if c = 99 then w_t w' o else G.2.1 c k) = τ := by
      rcases ho with ⟨rfl, rfl, q1, q2⟩ | ⟨q1, q2, q3⟩
      · rw [if_pos rfl, et, q2]
      · rw [if_neg (h.2.2.2.2.2.2.2 c k q2).2, q3]
    rw [show (if (c, o, k).1 = 99 then w_t w' (c, o, k).2.1 else G.2.1 (c, o, k).1 (c, o, k).2.2) = τ from e9]
    unfold w_arr
    rw [en]
    match τ, h3 with
    | 0, _ => rfl
    | 1, _ => rfl
    | 2, _ => rfl
  rw [e] at h1
  exact h1
end WS
