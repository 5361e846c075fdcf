/-! ===== READS BEHIND WRITES (printed by tools/gen_rd.py) ===== -/
theorem Rii {w : wS} {c o k c' o' k' : Nat} {v : Int32} : w_i (ws_i w c o k v) c' o' k' = if k' = k ∧ c' = c ∧ o' = o then v else w_i w c' o' k' := w_u3_at _ _ _ _ _ _ _ _
theorem Rig {w : wS} {c o k c' o' k' : Nat} {v : Int64} : w_i (ws_g w c o k v) c' o' k' = w_i w c' o' k' := rfl
theorem Rip {w : wS} {c o k c' o' k' : Nat} {v : Option Nat} : w_i (ws_p w c o k v) c' o' k' = w_i w c' o' k' := rfl
theorem Ria {w : wS} {c o k j c' o' k' : Nat} {v : Int32} : w_i (ws_a w c o k j v) c' o' k' = w_i w c' o' k' := rfl
theorem Rib {w : wS} {c o k j c' o' k' : Nat} {v : Int64} : w_i (ws_b w c o k j v) c' o' k' = w_i w c' o' k' := rfl
theorem Rir {w : wS} {c o k j c' o' k' : Nat} {v : Option Nat} : w_i (ws_r w c o k j v) c' o' k' = w_i w c' o' k' := rfl
theorem RiA {w : wS} {c o k c' o' k' : Nat} {v : Nat → Int32} : w_i (ws_A w c o k v) c' o' k' = w_i w c' o' k' := rfl
theorem RiR {w : wS} {c o k c' o' k' : Nat} {v : Nat → Option Nat} : w_i (ws_R w c o k v) c' o' k' = w_i w c' o' k' := rfl
theorem RiN {w : wS} {c' o' k' τ m : Nat} : w_i (ws_new w τ m) c' o' k' = w_i w c' o' k' := rfl
theorem RiO {w : wS} {c' o' k' c m : Nat} : w_i (ws_obj w c m) c' o' k' = if c' = c ∧ o' = w_z w then 0 else w_i w c' o' k' := w_z3_at _ _ _ _ _ _ _
theorem RiU {w : wS} {c o k a c' o' k' : Nat} : w_i (ws_put w c o k a) c' o' k' = w_i w c' o' k' := rfl
theorem RiT {w : wS} {c' o' k' : Nat} : w_i (ws_task w) c' o' k' = if c' = 17 ∧ o' = w_z w then 0 else w_i w c' o' k' := w_z3_at _ _ _ _ _ _ _
theorem Rgi {w : wS} {c o k c' o' k' : Nat} {v : Int32} : w_g (ws_i w c o k v) c' o' k' = w_g w c' o' k' := rfl
theorem Rgg {w : wS} {c o k c' o' k' : Nat} {v : Int64} : w_g (ws_g w c o k v) c' o' k' = if k' = k ∧ c' = c ∧ o' = o then v else w_g w c' o' k' := w_u3_at _ _ _ _ _ _ _ _
theorem Rgp {w : wS} {c o k c' o' k' : Nat} {v : Option Nat} : w_g (ws_p w c o k v) c' o' k' = w_g w c' o' k' := rfl
theorem Rga {w : wS} {c o k j c' o' k' : Nat} {v : Int32} : w_g (ws_a w c o k j v) c' o' k' = w_g w c' o' k' := rfl
theorem Rgb {w : wS} {c o k j c' o' k' : Nat} {v : Int64} : w_g (ws_b w c o k j v) c' o' k' = w_g w c' o' k' := rfl
theorem Rgr {w : wS} {c o k j c' o' k' : Nat} {v : Option Nat} : w_g (ws_r w c o k j v) c' o' k' = w_g w c' o' k' := rfl
theorem RgA {w : wS} {c o k c' o' k' : Nat} {v : Nat → Int32} : w_g (ws_A w c o k v) c' o' k' = w_g w c' o' k' := rfl
theorem RgR {w : wS} {c o k c' o' k' : Nat} {v : Nat → Option Nat} : w_g (ws_R w c o k v) c' o' k' = w_g w c' o' k' := rfl
theorem RgN {w : wS} {c' o' k' τ m : Nat} : w_g (ws_new w τ m) c' o' k' = w_g w c' o' k' := rfl
theorem RgO {w : wS} {c' o' k' c m : Nat} : w_g (ws_obj w c m) c' o' k' = if c' = c ∧ o' = w_z w then 0 else w_g w c' o' k' := w_z3_at _ _ _ _ _ _ _
theorem RgU {w : wS} {c o k a c' o' k' : Nat} : w_g (ws_put w c o k a) c' o' k' = w_g w c' o' k' := rfl
theorem RgT {w : wS} {c' o' k' : Nat} : w_g (ws_task w) c' o' k' = if c' = 17 ∧ o' = w_z w then 0 else w_g w c' o' k' := w_z3_at _ _ _ _ _ _ _
theorem Rpi {w : wS} {c o k c' o' k' : Nat} {v : Int32} : w_p (ws_i w c o k v) c' o' k' = w_p w c' o' k' := rfl
theorem Rpg {w : wS} {c o k c' o' k' : Nat} {v : Int64} : w_p (ws_g w c o k v) c' o' k' = w_p w c' o' k' := rfl
theorem Rpp {w : wS} {c o k c' o' k' : Nat} {v : Option Nat} : w_p (ws_p w c o k v) c' o' k' = if k' = k ∧ c' = c ∧ o' = o then v else w_p w c' o' k' := w_u3_at _ _ _ _ _ _ _ _
theorem Rpa {w : wS} {c o k j c' o' k' : Nat} {v : Int32} : w_p (ws_a w c o k j v) c' o' k' = w_p w c' o' k' := rfl
theorem Rpb {w : wS} {c o k j c' o' k' : Nat} {v : Int64} : w_p (ws_b w c o k j v) c' o' k' = w_p w c' o' k' := rfl
theorem Rpr {w : wS} {c o k j c' o' k' : Nat} {v : Option Nat} : w_p (ws_r w c o k j v) c' o' k' = w_p w c' o' k' := rfl
theorem RpA {w : wS} {c o k c' o' k' : Nat} {v : Nat → Int32} : w_p (ws_A w c o k v) c' o' k' = w_p w c' o' k' := rfl
theorem RpR {w : wS} {c o k c' o' k' : Nat} {v : Nat → Option Nat} : w_p (ws_R w c o k v) c' o' k' = w_p w c' o' k' := rfl
theorem RpN {w : wS} {c' o' k' τ m : Nat} : w_p (ws_new w τ m) c' o' k' = w_p w c' o' k' := rfl
theorem RpO {w : wS} {c' o' k' c m : Nat} : w_p (ws_obj w c m) c' o' k' = if c' = c ∧ o' = w_z w then none else w_p w c' o' k' := w_z3_at _ _ _ _ _ _ _
theorem RpU {w : wS} {c o k a c' o' k' : Nat} : w_p (ws_put w c o k a) c' o' k' = w_p w c' o' k' := rfl
theorem RpT {w : wS} {c' o' k' : Nat} : w_p (ws_task w) c' o' k' = if c' = 17 ∧ o' = w_z w then none else w_p w c' o' k' := w_z3_at _ _ _ _ _ _ _
theorem Rai {w : wS} {c o k c' o' k' j' : Nat} {v : Int32} : w_a (ws_i w c o k v) c' o' k' j' = w_a w c' o' k' j' := rfl
theorem Rag {w : wS} {c o k c' o' k' j' : Nat} {v : Int64} : w_a (ws_g w c o k v) c' o' k' j' = w_a w c' o' k' j' := rfl
theorem Rap {w : wS} {c o k c' o' k' j' : Nat} {v : Option Nat} : w_a (ws_p w c o k v) c' o' k' j' = w_a w c' o' k' j' := rfl
theorem Raa {w : wS} {c o k j c' o' k' j' : Nat} {v : Int32} : w_a (ws_a w c o k j v) c' o' k' j' = if k' = k ∧ c' = c ∧ o' = o ∧ j' = j then v else w_a w c' o' k' j' := w_u4_at _ _ _ _ _ _ _ _ _ _
theorem Rab {w : wS} {c o k j c' o' k' j' : Nat} {v : Int64} : w_a (ws_b w c o k j v) c' o' k' j' = w_a w c' o' k' j' := rfl
theorem Rar {w : wS} {c o k j c' o' k' j' : Nat} {v : Option Nat} : w_a (ws_r w c o k j v) c' o' k' j' = w_a w c' o' k' j' := rfl
theorem RaA {w : wS} {c o k c' o' k' j' : Nat} {v : Nat → Int32} : w_a (ws_A w c o k v) c' o' k' j' = if k' = k ∧ c' = c ∧ o' = o then v j' else w_a w c' o' k' j' := w_f4_at _ _ _ _ _ _ _ _ _
theorem RaR {w : wS} {c o k c' o' k' j' : Nat} {v : Nat → Option Nat} : w_a (ws_R w c o k v) c' o' k' j' = w_a w c' o' k' j' := rfl
theorem RaN {w : wS} {c' o' k' j' τ m : Nat} : w_a (ws_new w τ m) c' o' k' j' = if k' = 0 ∧ c' = 99 ∧ o' = w_z w then 0 else w_a w c' o' k' j' := w_f4_at _ _ _ _ (fun _ => 0) _ _ _ _
theorem RaO {w : wS} {c' o' k' j' c m : Nat} : w_a (ws_obj w c m) c' o' k' j' = w_a w c' o' k' j' := rfl
theorem RaU {w : wS} {c o k a c' o' k' j' : Nat} : w_a (ws_put w c o k a) c' o' k' j' = if k' = k ∧ c' = c ∧ o' = o then w_a w 99 a 0 j' else w_a w c' o' k' j' := w_f4_at _ _ _ _ _ _ _ _ _
theorem RaT {w : wS} {c' o' k' j' : Nat} : w_a (ws_task w) c' o' k' j' = if k' = 14 ∧ c' = 17 ∧ o' = w_z w then 0 else if k' = 13 ∧ c' = 17 ∧ o' = w_z w then 0 else if k' = 12 ∧ c' = 17 ∧ o' = w_z w then 0 else w_a w c' o' k' j' := by
  rw [w_a_task, w_f4_at, w_f4_at, w_f4_at]
theorem Rbi {w : wS} {c o k c' o' k' j' : Nat} {v : Int32} : w_b (ws_i w c o k v) c' o' k' j' = w_b w c' o' k' j' := rfl
theorem Rbg {w : wS} {c o k c' o' k' j' : Nat} {v : Int64} : w_b (ws_g w c o k v) c' o' k' j' = w_b w c' o' k' j' := rfl
theorem Rbp {w : wS} {c o k c' o' k' j' : Nat} {v : Option Nat} : w_b (ws_p w c o k v) c' o' k' j' = w_b w c' o' k' j' := rfl
theorem Rba {w : wS} {c o k j c' o' k' j' : Nat} {v : Int32} : w_b (ws_a w c o k j v) c' o' k' j' = w_b w c' o' k' j' := rfl
theorem Rbb {w : wS} {c o k j c' o' k' j' : Nat} {v : Int64} : w_b (ws_b w c o k j v) c' o' k' j' = if k' = k ∧ c' = c ∧ o' = o ∧ j' = j then v else w_b w c' o' k' j' := w_u4_at _ _ _ _ _ _ _ _ _ _
theorem Rbr {w : wS} {c o k j c' o' k' j' : Nat} {v : Option Nat} : w_b (ws_r w c o k j v) c' o' k' j' = w_b w c' o' k' j' := rfl
theorem RbA {w : wS} {c o k c' o' k' j' : Nat} {v : Nat → Int32} : w_b (ws_A w c o k v) c' o' k' j' = w_b w c' o' k' j' := rfl
theorem RbR {w : wS} {c o k c' o' k' j' : Nat} {v : Nat → Option Nat} : w_b (ws_R w c o k v) c' o' k' j' = w_b w c' o' k' j' := rfl
theorem RbN {w : wS} {c' o' k' j' τ m : Nat} : w_b (ws_new w τ m) c' o' k' j' = if k' = 0 ∧ c' = 99 ∧ o' = w_z w then 0 else w_b w c' o' k' j' := w_f4_at _ _ _ _ (fun _ => 0) _ _ _ _
theorem RbO {w : wS} {c' o' k' j' c m : Nat} : w_b (ws_obj w c m) c' o' k' j' = w_b w c' o' k' j' := rfl
theorem RbU {w : wS} {c o k a c' o' k' j' : Nat} : w_b (ws_put w c o k a) c' o' k' j' = if k' = k ∧ c' = c ∧ o' = o then w_b w 99 a 0 j' else w_b w c' o' k' j' := w_f4_at _ _ _ _ _ _ _ _ _
theorem RbT {w : wS} {c' o' k' j' : Nat} : w_b (ws_task w) c' o' k' j' = w_b w c' o' k' j' := rfl
theorem Rri {w : wS} {c o k c' o' k' j' : Nat} {v : Int32} : w_r (ws_i w c o k v) c' o' k' j' = w_r w c' o' k' j' := rfl
theorem Rrg {w : wS} {c o k c' o' k' j' : Nat} {v : Int64} : w_r (ws_g w c o k v) c' o' k' j' = w_r w c' o' k' j' := rfl
theorem Rrp {w : wS} {c o k c' o' k' j' : Nat} {v : Option Nat} : w_r (ws_p w c o k v) c' o' k' j' = w_r w c' o' k' j' := rfl
theorem Rra {w : wS} {c o k j c' o' k' j' : Nat} {v : Int32} : w_r (ws_a w c o k j v) c' o' k' j' = w_r w c' o' k' j' := rfl
theorem Rrb {w : wS} {c o k j c' o' k' j' : Nat} {v : Int64} : w_r (ws_b w c o k j v) c' o' k' j' = w_r w c' o' k' j' := rfl
theorem Rrr {w : wS} {c o k j c' o' k' j' : Nat} {v : Option Nat} : w_r (ws_r w c o k j v) c' o' k' j' = if k' = k ∧ c' = c ∧ o' = o ∧ j' = j then v else w_r w c' o' k' j' := w_u4_at _ _ _ _ _ _ _ _ _ _
theorem RrA {w : wS} {c o k c' o' k' j' : Nat} {v : Nat → Int32} : w_r (ws_A w c o k v) c' o' k' j' = w_r w c' o' k' j' := rfl
theorem RrR {w : wS} {c o k c' o' k' j' : Nat} {v : Nat → Option Nat} : w_r (ws_R w c o k v) c' o' k' j' = if k' = k ∧ c' = c ∧ o' = o then v j' else w_r w c' o' k' j' := w_f4_at _ _ _ _ _ _ _ _ _
theorem RrN {w : wS} {c' o' k' j' τ m : Nat} : w_r (ws_new w τ m) c' o' k' j' = if k' = 0 ∧ c' = 99 ∧ o' = w_z w then none else w_r w c' o' k' j' := w_f4_at _ _ _ _ (fun _ => none) _ _ _ _
theorem RrO {w : wS} {c' o' k' j' c m : Nat} : w_r (ws_obj w c m) c' o' k' j' = w_r w c' o' k' j' := rfl
theorem RrU {w : wS} {c o k a c' o' k' j' : Nat} : w_r (ws_put w c o k a) c' o' k' j' = if k' = k ∧ c' = c ∧ o' = o then w_r w 99 a 0 j' else w_r w c' o' k' j' := w_f4_at _ _ _ _ _ _ _ _ _
theorem RrT {w : wS} {c' o' k' j' : Nat} : w_r (ws_task w) c' o' k' j' = w_r w c' o' k' j' := rfl
theorem Rni {w : wS} {c o k c' o' k' : Nat} {v : Int32} : w_n (ws_i w c o k v) c' o' k' = w_n w c' o' k' := rfl
theorem Rng {w : wS} {c o k c' o' k' : Nat} {v : Int64} : w_n (ws_g w c o k v) c' o' k' = w_n w c' o' k' := rfl
theorem Rnp {w : wS} {c o k c' o' k' : Nat} {v : Option Nat} : w_n (ws_p w c o k v) c' o' k' = w_n w c' o' k' := rfl
theorem Rna {w : wS} {c o k j c' o' k' : Nat} {v : Int32} : w_n (ws_a w c o k j v) c' o' k' = w_n w c' o' k' := rfl
theorem Rnb {w : wS} {c o k j c' o' k' : Nat} {v : Int64} : w_n (ws_b w c o k j v) c' o' k' = w_n w c' o' k' := rfl
theorem Rnr {w : wS} {c o k j c' o' k' : Nat} {v : Option Nat} : w_n (ws_r w c o k j v) c' o' k' = w_n w c' o' k' := rfl
theorem RnA {w : wS} {c o k c' o' k' : Nat} {v : Nat → Int32} : w_n (ws_A w c o k v) c' o' k' = w_n w c' o' k' := rfl
theorem RnR {w : wS} {c o k c' o' k' : Nat} {v : Nat → Option Nat} : w_n (ws_R w c o k v) c' o' k' = w_n w c' o' k' := rfl
theorem RnN {w : wS} {c' o' k' τ m : Nat} : w_n (ws_new w τ m) c' o' k' = if k' = 0 ∧ c' = 99 ∧ o' = w_z w then m else w_n w c' o' k' := w_u3_at _ _ _ _ _ _ _ _
theorem RnO {w : wS} {c' o' k' c m : Nat} : w_n (ws_obj w c m) c' o' k' = w_n w c' o' k' := rfl
theorem RnU {w : wS} {c o k a c' o' k' : Nat} : w_n (ws_put w c o k a) c' o' k' = if k' = k ∧ c' = c ∧ o' = o then w_n w 99 a 0 else w_n w c' o' k' := w_u3_at _ _ _ _ _ _ _ _
theorem RnT {w : wS} {c' o' k' : Nat} : w_n (ws_task w) c' o' k' = if k' = 14 ∧ c' = 17 ∧ o' = w_z w then 2 else if k' = 13 ∧ c' = 17 ∧ o' = w_z w then 8 else if k' = 12 ∧ c' = 17 ∧ o' = w_z w then 4 else w_n w c' o' k' := by
  rw [w_n_task, w_u3_at, w_u3_at, w_u3_at]
theorem Rdi {w : wS} {c o k c' o' k' : Nat} {v : Int32} : w_d (ws_i w c o k v) c' o' k' = w_d w c' o' k' := rfl
theorem Rdg {w : wS} {c o k c' o' k' : Nat} {v : Int64} : w_d (ws_g w c o k v) c' o' k' = w_d w c' o' k' := rfl
theorem Rdp {w : wS} {c o k c' o' k' : Nat} {v : Option Nat} : w_d (ws_p w c o k v) c' o' k' = w_d w c' o' k' := rfl
theorem Rda {w : wS} {c o k j c' o' k' : Nat} {v : Int32} : w_d (ws_a w c o k j v) c' o' k' = w_d w c' o' k' := rfl
theorem Rdb {w : wS} {c o k j c' o' k' : Nat} {v : Int64} : w_d (ws_b w c o k j v) c' o' k' = w_d w c' o' k' := rfl
theorem Rdr {w : wS} {c o k j c' o' k' : Nat} {v : Option Nat} : w_d (ws_r w c o k j v) c' o' k' = w_d w c' o' k' := rfl
theorem RdA {w : wS} {c o k c' o' k' : Nat} {v : Nat → Int32} : w_d (ws_A w c o k v) c' o' k' = w_d w c' o' k' := rfl
theorem RdR {w : wS} {c o k c' o' k' : Nat} {v : Nat → Option Nat} : w_d (ws_R w c o k v) c' o' k' = w_d w c' o' k' := rfl
theorem RdN {w : wS} {c' o' k' τ m : Nat} : w_d (ws_new w τ m) c' o' k' = w_d w c' o' k' := rfl
theorem RdO {w : wS} {c' o' k' c m : Nat} : w_d (ws_obj w c m) c' o' k' = w_d w c' o' k' := rfl
theorem RdU {w : wS} {c o k a c' o' k' : Nat} : w_d (ws_put w c o k a) c' o' k' = if k' = k ∧ c' = c ∧ o' = o then a else w_d w c' o' k' := w_u3_at _ _ _ _ _ _ _ _
theorem RdT {w : wS} {c' o' k' : Nat} : w_d (ws_task w) c' o' k' = if k' = 14 ∧ c' = 17 ∧ o' = w_z w then w_z w + 3 else if k' = 13 ∧ c' = 17 ∧ o' = w_z w then w_z w + 2 else if k' = 12 ∧ c' = 17 ∧ o' = w_z w then w_z w + 1 else w_d w c' o' k' := by
  rw [w_d_task, w_u3_at, w_u3_at, w_u3_at]
theorem Roi {w : wS} {c o k a' : Nat} {v : Int32} : w_o (ws_i w c o k v) a' = w_o w a' := rfl
theorem Rog {w : wS} {c o k a' : Nat} {v : Int64} : w_o (ws_g w c o k v) a' = w_o w a' := rfl
theorem Rop {w : wS} {c o k a' : Nat} {v : Option Nat} : w_o (ws_p w c o k v) a' = w_o w a' := rfl
theorem Roa {w : wS} {c o k j a' : Nat} {v : Int32} : w_o (ws_a w c o k j v) a' = w_o w a' := rfl
theorem Rob {w : wS} {c o k j a' : Nat} {v : Int64} : w_o (ws_b w c o k j v) a' = w_o w a' := rfl
theorem Ror {w : wS} {c o k j a' : Nat} {v : Option Nat} : w_o (ws_r w c o k j v) a' = w_o w a' := rfl
theorem RoA {w : wS} {c o k a' : Nat} {v : Nat → Int32} : w_o (ws_A w c o k v) a' = w_o w a' := rfl
theorem RoR {w : wS} {c o k a' : Nat} {v : Nat → Option Nat} : w_o (ws_R w c o k v) a' = w_o w a' := rfl
theorem RoN {w : wS} {a' τ m : Nat} : w_o (ws_new w τ m) a' = if a' = w_z w then some (99, w_z w, 0) else w_o w a' := w_u1_at _ _ _ _
theorem RoO {w : wS} {a' c m : Nat} : w_o (ws_obj w c m) a' = if a' = w_z w then some (c, w_z w, 999) else w_o w a' := w_u1_at _ _ _ _
theorem RoU {w : wS} {c o k a a' : Nat} : w_o (ws_put w c o k a) a' = if a' = a then some (c, o, k) else if a' = w_d w c o k then none else w_o w a' := w_o_put _
theorem RoT {w : wS} {a' : Nat} : w_o (ws_task w) a' = if a' = w_z w + 3 then some (17, w_z w, 14) else if a' = w_z w + 2 then some (17, w_z w, 13) else if a' = w_z w + 1 then some (17, w_z w, 12) else if a' = w_z w then some (17, w_z w, 999) else w_cl (w_o w) 17 (w_z w) a' := w_o_task _
theorem Rti {w : wS} {c o k a' : Nat} {v : Int32} : w_t (ws_i w c o k v) a' = w_t w a' := rfl
theorem Rtg {w : wS} {c o k a' : Nat} {v : Int64} : w_t (ws_g w c o k v) a' = w_t w a' := rfl
theorem Rtp {w : wS} {c o k a' : Nat} {v : Option Nat} : w_t (ws_p w c o k v) a' = w_t w a' := rfl
theorem Rta {w : wS} {c o k j a' : Nat} {v : Int32} : w_t (ws_a w c o k j v) a' = w_t w a' := rfl
theorem Rtb {w : wS} {c o k j a' : Nat} {v : Int64} : w_t (ws_b w c o k j v) a' = w_t w a' := rfl
theorem Rtr {w : wS} {c o k j a' : Nat} {v : Option Nat} : w_t (ws_r w c o k j v) a' = w_t w a' := rfl
theorem RtA {w : wS} {c o k a' : Nat} {v : Nat → Int32} : w_t (ws_A w c o k v) a' = w_t w a' := rfl
theorem RtR {w : wS} {c o k a' : Nat} {v : Nat → Option Nat} : w_t (ws_R w c o k v) a' = w_t w a' := rfl
theorem RtN {w : wS} {a' τ m : Nat} : w_t (ws_new w τ m) a' = if a' = w_z w then τ else w_t w a' := w_u1_at _ _ _ _
theorem RtO {w : wS} {a' c m : Nat} : w_t (ws_obj w c m) a' = w_t w a' := rfl
theorem RtU {w : wS} {c o k a a' : Nat} : w_t (ws_put w c o k a) a' = w_t w a' := rfl
theorem RtT {w : wS} {a' : Nat} : w_t (ws_task w) a' = w_t w a' := rfl
theorem Rzi {w : wS} {c o k : Nat} {v : Int32} : w_z (ws_i w c o k v) = w_z w := rfl
theorem Rzg {w : wS} {c o k : Nat} {v : Int64} : w_z (ws_g w c o k v) = w_z w := rfl
theorem Rzp {w : wS} {c o k : Nat} {v : Option Nat} : w_z (ws_p w c o k v) = w_z w := rfl
theorem Rza {w : wS} {c o k j : Nat} {v : Int32} : w_z (ws_a w c o k j v) = w_z w := rfl
theorem Rzb {w : wS} {c o k j : Nat} {v : Int64} : w_z (ws_b w c o k j v) = w_z w := rfl
theorem Rzr {w : wS} {c o k j : Nat} {v : Option Nat} : w_z (ws_r w c o k j v) = w_z w := rfl
theorem RzA {w : wS} {c o k : Nat} {v : Nat → Int32} : w_z (ws_A w c o k v) = w_z w := rfl
theorem RzR {w : wS} {c o k : Nat} {v : Nat → Option Nat} : w_z (ws_R w c o k v) = w_z w := rfl
theorem RzN {w : wS} {τ m : Nat} : w_z (ws_new w τ m) = w_z w + 1 := rfl
theorem RzO {w : wS} {c m : Nat} : w_z (ws_obj w c m) = w_z w + 1 := rfl
theorem RzU {w : wS} {c o k a : Nat} : w_z (ws_put w c o k a) = w_z w := rfl
theorem RzT {w : wS} : w_z (ws_task w) = w_z w + 4 := rfl
theorem RCi {w : wS} {c o k : Nat} {v : Int32} : w_C (ws_i w c o k v) = w_C w := rfl
theorem RCg {w : wS} {c o k : Nat} {v : Int64} : w_C (ws_g w c o k v) = w_C w := rfl
theorem RCp {w : wS} {c o k : Nat} {v : Option Nat} : w_C (ws_p w c o k v) = w_C w := rfl
theorem RCa {w : wS} {c o k j : Nat} {v : Int32} : w_C (ws_a w c o k j v) = w_C w := rfl
theorem RCb {w : wS} {c o k j : Nat} {v : Int64} : w_C (ws_b w c o k j v) = w_C w := rfl
theorem RCr {w : wS} {c o k j : Nat} {v : Option Nat} : w_C (ws_r w c o k j v) = w_C w := rfl
theorem RCA {w : wS} {c o k : Nat} {v : Nat → Int32} : w_C (ws_A w c o k v) = w_C w := rfl
theorem RCR {w : wS} {c o k : Nat} {v : Nat → Option Nat} : w_C (ws_R w c o k v) = w_C w := rfl
theorem RCN {w : wS} {τ m : Nat} : w_C (ws_new w τ m) = w_C w - 1 := rfl
theorem RCO {w : wS} {c m : Nat} : w_C (ws_obj w c m) = w_C w - 1 := rfl
theorem RCU {w : wS} {c o k a : Nat} : w_C (ws_put w c o k a) = w_C w := rfl
theorem RCT {w : wS} : w_C (ws_task w) = w_C w - 4 := rfl
theorem RSi {w : wS} {c o k : Nat} {v : Int32} : w_S (ws_i w c o k v) = w_S w := rfl
theorem RSg {w : wS} {c o k : Nat} {v : Int64} : w_S (ws_g w c o k v) = w_S w := rfl
theorem RSp {w : wS} {c o k : Nat} {v : Option Nat} : w_S (ws_p w c o k v) = w_S w := rfl
theorem RSa {w : wS} {c o k j : Nat} {v : Int32} : w_S (ws_a w c o k j v) = w_S w := rfl
theorem RSb {w : wS} {c o k j : Nat} {v : Int64} : w_S (ws_b w c o k j v) = w_S w := rfl
theorem RSr {w : wS} {c o k j : Nat} {v : Option Nat} : w_S (ws_r w c o k j v) = w_S w := rfl
theorem RSA {w : wS} {c o k : Nat} {v : Nat → Int32} : w_S (ws_A w c o k v) = w_S w := rfl
theorem RSR {w : wS} {c o k : Nat} {v : Nat → Option Nat} : w_S (ws_R w c o k v) = w_S w := rfl
theorem RSN {w : wS} {τ m : Nat} : w_S (ws_new w τ m) = w_S w - m := rfl
theorem RSO {w : wS} {c m : Nat} : w_S (ws_obj w c m) = w_S w - m := rfl
theorem RSU {w : wS} {c o k a : Nat} : w_S (ws_put w c o k a) = w_S w := rfl
theorem RST {w : wS} : w_S (ws_task w) = w_S w - 34 := rfl
