/-! ===== A new Task with its three arrays ===== -/
/-- owners without an object's -/
def w_cl (f : Nat → Option (Nat × Nat × Nat)) (c o : Nat) : Nat → Option (Nat × Nat × Nat) := fun a => match f a with
  | some q => bif Nat.beq q.1 c && Nat.beq q.2.1 o then none else some q
  | none => none
theorem w_cl_some {f : Nat → Option (Nat × Nat × Nat)} {c o a : Nat} {q : Nat × Nat × Nat} : w_cl f c o a = some q ↔ f a = some q ∧ ¬ (q.1 = c ∧ q.2.1 = o) := by
  unfold w_cl
  cases h : f a with
  | none => simp
  | some p =>
    simp only
    cases hb : (Nat.beq p.1 c && Nat.beq p.2.1 o) with
    | true =>
      rw [Bool.and_eq_true, w_beq, w_beq] at hb
      simp only [cond_true]
      constructor
      · intro h; cases h
      · rintro ⟨h, h2⟩
        cases h
        exact absurd hb h2
    | false =>
      simp only [cond_false]
      constructor
      · intro h
        cases h
        refine ⟨rfl, fun h2 => ?_⟩
        have : (Nat.beq q.1 c && Nat.beq q.2.1 o) = true := by
          rw [Bool.and_eq_true, w_beq, w_beq]
          exact h2
        rw [hb] at this
        cases this
      · rintro ⟨h, -⟩
        exact h
def ws_task (w : wS) : wS := (w_z3 w.1 17 (w_z w) 0, w_z3 w.2.1 17 (w_z w) 0, w_z3 w.2.2.1 17 (w_z w) none, w_f4 (w_f4 (w_f4 w.2.2.2.1 17 (w_z w) 12 (fun _ => 0)) 17 (w_z w) 13 (fun _ => 0)) 17 (w_z w) 14 (fun _ => 0), w.2.2.2.2.1, w.2.2.2.2.2.1, w_u3 (w_u3 (w_u3 w.2.2.2.2.2.2.1 17 (w_z w) 12 4) 17 (w_z w) 13 8) 17 (w_z w) 14 2, w_u3 (w_u3 (w_u3 w.2.2.2.2.2.2.2.1 17 (w_z w) 12 (w_z w + 1)) 17 (w_z w) 13 (w_z w + 2)) 17 (w_z w) 14 (w_z w + 3), w_u1 (w_u1 (w_u1 (w_u1 (w_cl (w_o w) 17 (w_z w)) (w_z w) (some (17, w_z w, 999))) (w_z w + 1) (some (17, w_z w, 12))) (w_z w + 2) (some (17, w_z w, 13))) (w_z w + 3) (some (17, w_z w, 14)), w_t w, w_z w + 4, w_C w - 4, w_S w - 34)
section KZT
variable {V : kx_V} {ob : Nat → Nat} {ot : Nat → Option kx_E} {L : Nat} {M : kx_M} {pc : Nat} {lv : kx_L} {st : List Value} {w : wS} {Q : kx_Rs → wS → Prop} {X X4 : kx_X}
theorem w_a_task (c o k j : Nat) : w_a (ws_task w) c o k j = w_f4 (w_f4 (w_f4 (w_a w) 17 (w_z w) 12 (fun _ => 0)) 17 (w_z w) 13 (fun _ => 0)) 17 (w_z w) 14 (fun _ => 0) c o k j := rfl
theorem w_n_task (c o k : Nat) : w_n (ws_task w) c o k = w_u3 (w_u3 (w_u3 (w_n w) 17 (w_z w) 12 4) 17 (w_z w) 13 8) 17 (w_z w) 14 2 c o k := rfl
theorem w_d_task (c o k : Nat) : w_d (ws_task w) c o k = w_u3 (w_u3 (w_u3 (w_d w) 17 (w_z w) 12 (w_z w + 1)) 17 (w_z w) 13 (w_z w + 2)) 17 (w_z w) 14 (w_z w + 3) c o k := rfl
theorem w_o_task (a : Nat) : w_o (ws_task w) a = if a = w_z w + 3 then some (17, w_z w, 14) else if a = w_z w + 2 then some (17, w_z w, 13) else if a = w_z w + 1 then some (17, w_z w, 12) else if a = w_z w then some (17, w_z w, 999) else w_cl (w_o w) 17 (w_z w) a := by
  show w_u1 (w_u1 (w_u1 (w_u1 (w_cl (w_o w) _ _) _ _) _ _) _ _) _ _ a = _
  rw [w_u1_at, w_u1_at, w_u1_at, w_u1_at]
def z_tfs (z : Nat) : List Value := (((kx_dv TX20 20).set 12 (.ref (z + 1))).set 13 (.ref (z + 2))).set 14 (.ref (z + 3))
theorem z_task_d (k : Nat) : w_d (ws_task w) 17 (w_z w) k = if k = 14 then w_z w + 3 else if k = 13 then w_z w + 2 else if k = 12 then w_z w + 1 else w_d w 17 (w_z w) k := by
  rw [w_d_task, w_u3_at, w_u3_at, w_u3_at]
  simp only [and_true]
theorem z_tfs_eq : w_fs wG ob (ws_task w) 17 (w_z w) = z_tfs (w_z w) := by
  have hi : ∀ k, w_i (ws_task w) 17 (w_z w) k = 0 := fun k => by
    show w_z3 w.1 17 (w_z w) 0 17 (w_z w) k = 0
    rw [w_z3_at, if_pos ⟨rfl, rfl⟩]
  have hp : ∀ k, w_p (ws_task w) 17 (w_z w) k = none := fun k => by
    show w_z3 w.2.2.1 17 (w_z w) none 17 (w_z w) k = none
    rw [w_z3_at, if_pos ⟨rfl, rfl⟩]
  have hd := fun k => z_task_d (w := w) k
  apply List.ext_getElem?
  intro k
  by_cases hk : k < 20
  · rw [w_fs_at (show k < wG.2.2.1 17 from hk)]
    match k, hk with
    | 0, _ => exact congrArg (fun q => some (Value.int q)) (hi 0)
    | 1, _ => exact congrArg (fun q => some (Value.int q)) (hi 1)
    | 2, _ => exact congrArg (fun q => some (Value.int q)) (hi 2)
    | 3, _ => exact congrArg (fun q => some (Value.int q)) (hi 3)
    | 4, _ => exact congrArg (fun q => some (Value.int q)) (hi 4)
    | 5, _ => exact congrArg (fun q => some (Value.int q)) (hi 5)
    | 6, _ => exact congrArg (fun q => some (Value.int q)) (hi 6)
    | 7, _ => exact congrArg (fun q => some (Value.int q)) (hi 7)
    | 8, _ => exact congrArg (fun q => some (Value.int q)) (hi 8)
    | 9, _ => exact congrArg (fun q => some (va_rf q)) (hp 9)
    | 10, _ => exact congrArg (fun q => some (va_rf q)) (hp 10)
    | 11, _ => exact congrArg (fun q => some (va_rf q)) (hp 11)
    | 12, _ => exact congrArg (fun q => some (Value.ref q)) (hd 12)
    | 13, _ => exact congrArg (fun q => some (Value.ref q)) (hd 13)
    | 14, _ => exact congrArg (fun q => some (Value.ref q)) (hd 14)
    | 15, _ => exact congrArg (fun q => some (Value.int q)) (hi 15)
    | 16, _ => exact congrArg (fun q => some (Value.int q)) (hi 16)
    | 17, _ => exact congrArg (fun q => some (Value.int q)) (hi 17)
    | 18, _ => exact congrArg (fun q => some (Value.int q)) (hi 18)
    | 19, _ => exact congrArg (fun q => some (Value.int q)) (hi 19)
    | k + 20, h => exact absurd h (by omega)
  · rw [List.getElem?_eq_none (by rw [w_fs_len]; exact Nat.le_of_not_lt hk), List.getElem?_eq_none (by unfold z_tfs; rw [List.length_set, List.length_set, List.length_set, kx_dv_len]; omega)]
theorem w_ar_17 : ∀ k, w_ar wG 17 k = true → k = 12 ∨ k = 13 ∨ k = 14 := by
  intro k hk
  by_cases h : k < 20
  · revert hk
    revert k
    decide +kernel
  · have h0 : wG.1 17 k = 0 := by
      show (wG_f.getD 17 []).getD k 0 = 0
      rw [List.getD_eq_getElem?_getD, List.getElem?_eq_none (by show 20 ≤ k; omega)]
      rfl
    unfold w_ar w_fa at hk
    rw [h0] at hk
    rw [Bool.or_eq_true, w_beq, w_beq] at hk
    omega
theorem wR.newT (h : wR V wG ob ot w X) (h2 : X4.2 = X.2 + 4) (g0 : X4.1 (w_z w) = some (.inr (17, z_tfs (w_z w)))) (g1 : X4.1 (w_z w + 1) = some (.inl (0, 4, .inl (fun _ => 0)))) (g2 : X4.1 (w_z w + 2) = some (.inl (0, 8, .inl (fun _ => 0)))) (g3 : X4.1 (w_z w + 3) = some (.inl (0, 2, .inl (fun _ => 0)))) (g9 : ∀ q, q < w_z w → X4.1 q = X.1 q) : wR V wG ob ot (ws_task w) X4 := by
  have hz : X.2 = w_z w := h.1
  have hne : ∀ a q, w_o w a = some q → a < w_z w := fun a q ha => (h.2.2.2.2.1 a q ha).2.2.1
  have hdd : ∀ c o k, ¬ (c = 17 ∧ o = w_z w) → w_d (ws_task w) c o k = w_d w c o k := fun c o k hn => by
    rw [w_d_task, w_u3_at, w_u3_at, w_u3_at, if_neg (fun q => hn q.2), if_neg (fun q => hn q.2), if_neg (fun q => hn q.2)]
  have hnn : ∀ c o k, ¬ (c = 17 ∧ o = w_z w) → w_n (ws_task w) c o k = w_n w c o k := fun c o k hn => by
    rw [w_n_task, w_u3_at, w_u3_at, w_u3_at, if_neg (fun q => hn q.2), if_neg (fun q => hn q.2), if_neg (fun q => hn q.2)]
  have haa : ∀ c o k, ¬ (c = 17 ∧ o = w_z w) → w_a (ws_task w) c o k = w_a w c o k := fun c o k hn => by
    funext j
    rw [w_a_task, w_f4_at, w_f4_at, w_f4_at, if_neg (fun q => hn q.2), if_neg (fun q => hn q.2), if_neg (fun q => hn q.2)]
  have hat : ∀ q : Nat × Nat × Nat, ¬ (q.1 = 17 ∧ q.2.1 = w_z w) → w_at wG ob (ws_task w) q = w_at wG ob w q := fun q hn => by
    unfold w_at w_ad
    rw [hdd _ _ _ hn]
  have hadr : w_adr ob 17 (w_z w) = w_z w := rfl
  have hold : ∀ a q, w_o w a = some q → ¬ (q.1 = 17 ∧ q.2.1 = w_z w) → w_o (ws_task w) a = some q := fun a q ha hn => by
    have := hne a q ha
    rw [w_o_task, if_neg (by omega), if_neg (by omega), if_neg (by omega), if_neg (by omega)]
    exact w_cl_some.mpr ⟨ha, hn⟩
  have hobj : ∀ c o, w_l w ob c o → ¬ (c = 17 ∧ o = w_z w) := by
    rintro c o hl ⟨rfl, rfl⟩
    have := hne _ _ hl
    rw [hadr] at this
    omega
  refine ⟨?_, ?_, fun b hb => ?_, fun b e hb => ?_, fun b p hb => ?_, fun c' o hs => ?_, fun c' o k h1 h3 => ?_, h.2.2.2.2.2.2.2⟩
  · show X4.2 = w_z w + 4
    omega
  · show kx_lo V ≤ w_z w + 4
    have := h.2.1
    omega
  · have := h.2.1
    rw [g9 b (by omega)]
    exact h.2.2.1 b hb
  · obtain ⟨k1, k2, k3⟩ := h.2.2.2.1 b e hb
    refine ⟨by rw [g9 b k3]; exact k1, ?_, by show b < w_z w + 4; omega⟩
    rw [w_o_task, if_neg (by omega), if_neg (by omega), if_neg (by omega), if_neg (by omega)]
    unfold w_cl
    rw [k2]
  · have hlo := h.2.1
    rw [w_o_task] at hb
    by_cases e3 : b = w_z w + 3
    · rw [if_pos e3] at hb
      cases hb
      refine ⟨?_, by omega, by show b < w_z w + 4; omega, ?_⟩
      · rw [e3]
        exact ((z_task_d (w := w) 14).trans rfl).symm
      · rw [e3, g3]
        have q1 : w_n (ws_task w) 17 (w_z w) 14 = 2 := by
          rw [w_n_task, w_u3_at, w_u3_at, w_u3_at]
          simp
        have q2 : w_a (ws_task w) 17 (w_z w) 14 = fun _ => 0 := by
          funext j
          rw [w_a_task, w_f4_at, w_f4_at, w_f4_at]
          simp
        show _ = some (Sum.inl (0, w_n (ws_task w) 17 (w_z w) 14, Sum.inl (w_a (ws_task w) 17 (w_z w) 14)))
        rw [q1, q2]
    rw [if_neg e3] at hb
    by_cases e2 : b = w_z w + 2
    · rw [if_pos e2] at hb
      cases hb
      refine ⟨?_, by omega, by show b < w_z w + 4; omega, ?_⟩
      · rw [e2]
        exact ((z_task_d (w := w) 13).trans rfl).symm
      · rw [e2, g2]
        have q1 : w_n (ws_task w) 17 (w_z w) 13 = 8 := by
          rw [w_n_task, w_u3_at, w_u3_at, w_u3_at]
          simp
        have q2 : w_a (ws_task w) 17 (w_z w) 13 = fun _ => 0 := by
          funext j
          rw [w_a_task, w_f4_at, w_f4_at, w_f4_at]
          simp
        show _ = some (Sum.inl (0, w_n (ws_task w) 17 (w_z w) 13, Sum.inl (w_a (ws_task w) 17 (w_z w) 13)))
        rw [q1, q2]
    rw [if_neg e2] at hb
    by_cases e1 : b = w_z w + 1
    · rw [if_pos e1] at hb
      cases hb
      refine ⟨?_, by omega, by show b < w_z w + 4; omega, ?_⟩
      · rw [e1]
        exact ((z_task_d (w := w) 12).trans rfl).symm
      · rw [e1, g1]
        have q1 : w_n (ws_task w) 17 (w_z w) 12 = 4 := by
          rw [w_n_task, w_u3_at, w_u3_at, w_u3_at]
          simp
        have q2 : w_a (ws_task w) 17 (w_z w) 12 = fun _ => 0 := by
          funext j
          rw [w_a_task, w_f4_at, w_f4_at, w_f4_at]
          simp
        show _ = some (Sum.inl (0, w_n (ws_task w) 17 (w_z w) 12, Sum.inl (w_a (ws_task w) 17 (w_z w) 12)))
        rw [q1, q2]
    rw [if_neg e1] at hb
    by_cases e0 : b = w_z w
    · rw [if_pos e0] at hb
      cases hb
      refine ⟨?_, by omega, by show b < w_z w + 4; omega, ?_⟩
      · rw [e0]
        rfl
      · rw [e0, g0, ← z_tfs_eq (ob := ob)]
        rfl
    rw [if_neg e0] at hb
    obtain ⟨hb1, hb2⟩ := w_cl_some.mp hb
    obtain ⟨k1, k2, k3, k4⟩ := h.2.2.2.2.1 b p hb1
    refine ⟨by rw [hat p hb2]; exact k1, k2, by show b < w_z w + 4; omega, ?_⟩
    rw [g9 b k3, k4]
    congr 1
    unfold w_cont
    by_cases h9 : p.2.2 = 999
    · rw [if_pos h9, if_pos h9]
      rw [w_fs_congr]
      intro k
      unfold w_val
      split
      · refine congrArg Value.int ?_
        show w_i w p.1 p.2.1 k = w_z3 w.1 17 (w_z w) 0 p.1 p.2.1 k
        rw [w_z3_at, if_neg hb2]
        rfl
      · refine congrArg Value.long ?_
        show w_g w p.1 p.2.1 k = w_z3 w.2.1 17 (w_z w) 0 p.1 p.2.1 k
        rw [w_z3_at, if_neg hb2]
        rfl
      · refine congrArg va_rf ?_
        show w_p w p.1 p.2.1 k = w_z3 w.2.2.1 17 (w_z w) none p.1 p.2.1 k
        rw [w_z3_at, if_neg hb2]
        rfl
      · rw [hdd _ _ _ hb2]
      · rfl
    · rw [if_neg h9, if_neg h9]
      unfold w_arr
      rw [hnn _ _ _ hb2, haa _ _ _ hb2]
      rfl
  · have h1 := h.2.2.2.2.2.1 c' o hs
    exact hold _ _ h1 (hobj c' o h1)
  · unfold w_l at h1
    rw [w_o_task] at h1
    by_cases e3 : w_adr ob c' o = w_z w + 3
    · rw [if_pos e3] at h1
      simp at h1
    rw [if_neg e3] at h1
    by_cases e2 : w_adr ob c' o = w_z w + 2
    · rw [if_pos e2] at h1
      simp at h1
    rw [if_neg e2] at h1
    by_cases e1 : w_adr ob c' o = w_z w + 1
    · rw [if_pos e1] at h1
      simp at h1
    rw [if_neg e1] at h1
    by_cases e0 : w_adr ob c' o = w_z w
    · rw [if_pos e0] at h1
      simp only [Option.some.injEq, Prod.mk.injEq, and_true] at h1
      obtain ⟨rfl, rfl⟩ := h1
      rcases w_ar_17 k h3 with rfl | rfl | rfl
      · show w_o (ws_task w) (w_d (ws_task w) 17 (w_z w) 12) = _
        rw [z_task_d, w_o_task]
        simp
      · show w_o (ws_task w) (w_d (ws_task w) 17 (w_z w) 13) = _
        rw [z_task_d, w_o_task]
        simp
      · show w_o (ws_task w) (w_d (ws_task w) 17 (w_z w) 14) = _
        rw [z_task_d, w_o_task]
        simp
    rw [if_neg e0] at h1
    obtain ⟨h4, h5⟩ := w_cl_some.mp h1
    have h6 := h.2.2.2.2.2.2.1 c' o k h4 h3
    have e : w_ad wG ob (ws_task w) c' o k = w_ad wG ob w c' o k := by
      unfold w_ad
      rw [hdd _ _ _ h5]
    rw [e]
    exact hold _ _ h6 h5
theorem wle_task (h : wR V wG ob ot w X) : wle w (ws_task w) := by
  intro a c o ha
  have h1 := h.2.2.2.2.1 a _ ha
  have : ¬ (c = 17 ∧ o = w_z w) := by
    rintro ⟨rfl, rfl⟩
    have h2 : a = w_z w := h1.1
    have := h1.2.2.1
    omega
  have hlt := h1.2.2.1
  rw [w_o_task, if_neg (by omega), if_neg (by omega), if_neg (by omega), if_neg (by omega)]
  exact w_cl_some.mpr ⟨ha, this⟩
end KZT
theorem zT_cl {E : zE} : (kx_cl (zV E)).findIdx? (fun q => q.1 == "MeetingHouse$Task") = some 17 := by
  show kw_cl.findIdx? _ = _
  decide +kernel
theorem zT_in {E : zE} : Jvm.Cond.instantiable "MeetingHouse$Task" 20 ∈ kx_Tb (zV E) := lw_g (lw_at lw_m11 116 rfl) rfl
theorem zT_ini {E : zE} : Jvm.Cond.initialized "MeetingHouse$Task" ∈ kx_Tb (zV E) := lw_g (lw_at lw_m1 36 rfl) rfl
theorem zT_oi {E : zE} : kx_ml (zV E) "MeetingHouse$Task" 3 = some Lib.objectInit := (show kt_get kt_mlA "MeetingHouse$Task" 3 = some Lib.objectInit from by decide +kernel)
theorem zT_f12 {E : zE} : kx_fl (zV E) "MeetingHouse$Task" 9 = some ("MeetingHouse$Task", "parts", "[I") := (show kt_get kt_flA "MeetingHouse$Task" 9 = some ("MeetingHouse$Task", "parts", "[I") from by decide +kernel)
theorem zT_k12 : kx_fk TX20 20 ("MeetingHouse$Task", "parts", "[I") = some 12 := by decide +kernel
theorem zT_f13 {E : zE} : kx_fl (zV E) "MeetingHouse$Task" 15 = some ("MeetingHouse$Task", "guards", "[I") := (show kt_get kt_flA "MeetingHouse$Task" 15 = some ("MeetingHouse$Task", "guards", "[I") from by decide +kernel)
theorem zT_k13 : kx_fk TX20 20 ("MeetingHouse$Task", "guards", "[I") = some 13 := by decide +kernel
theorem zT_f14 {E : zE} : kx_fl (zV E) "MeetingHouse$Task" 18 = some ("MeetingHouse$Task", "temporary", "[I") := (show kt_get kt_flA "MeetingHouse$Task" 18 = some ("MeetingHouse$Task", "temporary", "[I") from by decide +kernel)
theorem zT_k14 : kx_fk TX20 20 ("MeetingHouse$Task", "temporary", "[I") = some 14 := by decide +kernel
theorem kz_newt {E : zE} {L : Nat} {M : kx_M} {pc : Nat} {lv : kx_L} {st : List Value} {w : wS} {Q : kx_Rs → wS → Prop} {j js : Nat} (hd : decode M.2.1 pc = .ok (.new j, 3)) (hd2 : decode M.2.1 (pc + 3) = .ok (.dup, 1)) (hd3 : decode M.2.1 (pc + 4) = .ok (.invokespecial js, 3)) (hk : kx_kl (zV E) M.1.cls j = some "MeetingHouse$Task") (hi : wLi (zV E) M.1.cls js kt_M230 0) (hL : 60 ≤ L) (hcat : kx_cat st ≤ 7) {A : Prop} (h : (4 ≤ w_C w ∧ 34 ≤ w_S w) ∧ A) (kk : A → kzE E L M (pc + 7) lv (.ref (w_z w) :: st) (ws_task w) Q) : kzE E L M pc lv st w Q := by
  obtain ⟨⟨c1, c2⟩, hA⟩ := h
  intro F hF X hX
  have hz : X.2 = w_z w := hX.1
  have hlo := hX.2.1
  have hml : kt_M230.2.2.1 = 1 := rfl
  refine ky_step hd (pc' := pc + 3) (lv' := lv) (st' := .ref X.2 :: st) (X' := kx_push X (.inr (17, kx_dv TX20 20))) (dc := 1) (ds := 20) ?_ (C' := w_C w - 1) (S' := w_S w - 20) (by omega) (by omega) ?_
  · have e : (kx_cl (zV E))[17]? = some ("MeetingHouse$Task", TX20, 20) := rfl
    simp only [kx_st1, hk, zT_cl, e]
    rw [if_pos trivial, if_pos ⟨trivial, zT_in, zT_ini⟩]
  refine ky_dup hd2 rfl ?_
  have hfit : kx_fit F L kt_M230 [.ref X.2] (.ref X.2 :: st) = true := wM_fit (by decide +kernel) (by omega) (by rw [hml]; omega) (by simp [lg_sl, z_cr, kt_M230]) (by simp only [kx_cat, List.map_cons, List.sum_cons] at hcat ⊢; simp only [z_cr]; omega)
  obtain ⟨k1, k2, k3, k4, k5, k6, m1, m2, m3⟩ := hi
  have hne : kt_M230.1 ≠ Lib.objectInit := by decide +kernel
  have hinv : kx_inv (zV E) M.1.cls F L (.invokespecial js) 3 (.ref X.2 :: .ref X.2 :: st) (kx_push X (.inr (17, kx_dv TX20 20))) = some (kt_M230, [.ref X.2], .ref X.2 :: st) := by
    have harg : kx_arg 0 (.ref X.2 :: .ref X.2 :: st) = some ([], .ref X.2 :: .ref X.2 :: st) := by
      unfold kx_arg
      simp
    rcases k1 with k1 | ⟨k1, hh, k7⟩
    · simp only [kx_inv, k1, k2, k3, harg, hfit, if_pos, m2, m3, k4, k5, k6, and_self, and_true]
    · simp only [kx_inv, k1, k7, k2, k3, harg, hfit, if_pos, m2, m3, k4, k5, k6, and_self, and_true]
  refine ky_call hd3 (by simp only [kx_st1]) ?_ rfl hinv ?_
  · have hs : ¬ (kx_ml (zV E) M.1.cls js = some Lib.objectInit) := by
      rcases k1 with k1 | ⟨k1, -⟩
      · rw [k1]
        intro e
        exact hne (Option.some.inj e)
      · rw [k1]
        intro e
        cases e
    simp only [kx_st2, hs, false_and, if_false, ite_self]
  rw [hml]
  refine ky_aload_n (x := X.2) kX20_init_c0.1 rfl ?_
  refine ky_step2 kX20_init_c0.2.1 (by simp only [kx_st1]) (pc' := 4) (lv' := lv_args 0 [.ref X.2]) (st' := []) (X' := kx_push X (.inr (17, kx_dv TX20 20))) (dc := 0) (ds := 0) ?_ (Nat.zero_add _).symm (Nat.zero_add _).symm ?_
  · simp only [kx_st2]
    rw [if_pos trivial, if_pos ⟨zT_oi, zoi_1, zoi_2, by omega, by simp only [kx_cat, List.map_nil, List.sum_nil]; omega⟩]

  refine ky_aload_n (x := X.2) kX20_init_c0.2.2.1 rfl ?_
  refine ky_iconst (n := 4) kX20_init_c0.2.2.2.1 ?_
  refine ky_step kX20_init_c0.2.2.2.2.1 (pc' := 8) (lv' := lv_args 0 [.ref X.2]) (st' := [.ref (X.2 + 1), .ref X.2]) (X' := (kx_push (kx_push X (.inr (17, kx_dv TX20 20))) (.inl (0, 4, .inl (fun _ => 0))))) (dc := 1) (ds := 4) ?_ (C' := w_C w - 2) (S' := w_S w - 24) (by omega) (by omega) ?_
  · have e1 : newarray.typeOf .int = FieldType.int := rfl
    have e2 : (4 : Int32).toNatClampNeg = 4 := rfl
    have e3 : kx_na .int 4 = some (4, .inl (fun _ => 0)) := rfl
    show kx_st1 (zV E) _ _ _ (.newarray .int) 2 _ _ (.int 4 :: _) _ = _
    simp only [kx_st1, e1, e2, e3, ot_f0]
    rw [if_pos trivial, if_pos ⟨by decide, by decide, ot_0, ot_ai⟩]
    rfl
  refine ky_putf (M := kt_M230) (ci := 17) (fs := kx_dv TX20 20) (v := .ref (X.2 + 1)) kX20_init_c0.2.2.2.2.2.1 zT_f12 (show (kx_cl (zV E))[17]? = some ("MeetingHouse$Task", TX20, 20) from rfl) zT_k12 rfl rfl ?_ (by omega) rfl rfl (by simp [kx_dv_len]) ?_
  · simp [kx_push, kx_set] <;> omega
  refine ky_aload_n (x := X.2) kX20_init_c0.2.2.2.2.2.2.1 rfl ?_
  refine ky_bipush (n := 8) kX20_init_c0.2.2.2.2.2.2.2.1 ?_
  refine ky_step kX20_init_c1.1 (pc' := 16) (lv' := lv_args 0 [.ref X.2]) (st' := [.ref (X.2 + 2), .ref X.2]) (X' := (kx_push ((kx_set (kx_push (kx_push X (.inr (17, kx_dv TX20 20))) (.inl (0, 4, .inl (fun _ => 0)))) X.2 (.inr (17, (kx_dv TX20 20).set 12 (.ref (X.2 + 1)))))) (.inl (0, 8, .inl (fun _ => 0))))) (dc := 1) (ds := 8) ?_ (C' := w_C w - 3) (S' := w_S w - 32) (by omega) (by omega) ?_
  · have e1 : newarray.typeOf .int = FieldType.int := rfl
    have e2 : (8 : Int32).toNatClampNeg = 8 := rfl
    have e3 : kx_na .int 8 = some (8, .inl (fun _ => 0)) := rfl
    show kx_st1 (zV E) _ _ _ (.newarray .int) 2 _ _ (.int 8 :: _) _ = _
    simp only [kx_st1, e1, e2, e3, ot_f0]
    rw [if_pos trivial, if_pos ⟨by decide, by decide, ot_0, ot_ai⟩]
    rfl
  refine ky_putf (M := kt_M230) (ci := 17) (fs := (kx_dv TX20 20).set 12 (.ref (X.2 + 1))) (v := .ref (X.2 + 2)) kX20_init_c1.2.1 zT_f13 (show (kx_cl (zV E))[17]? = some ("MeetingHouse$Task", TX20, 20) from rfl) zT_k13 rfl rfl ?_ (by omega) rfl rfl (by simp [kx_dv_len]) ?_
  · simp [kx_push, kx_set] <;> omega
  refine ky_aload_n (x := X.2) kX20_init_c1.2.2.1 rfl ?_
  refine ky_iconst (n := 2) kX20_init_c1.2.2.2.1 ?_
  refine ky_step kX20_init_c1.2.2.2.2.1 (pc' := 23) (lv' := lv_args 0 [.ref X.2]) (st' := [.ref (X.2 + 3), .ref X.2]) (X' := (kx_push ((kx_set (kx_push ((kx_set (kx_push (kx_push X (.inr (17, kx_dv TX20 20))) (.inl (0, 4, .inl (fun _ => 0)))) X.2 (.inr (17, (kx_dv TX20 20).set 12 (.ref (X.2 + 1)))))) (.inl (0, 8, .inl (fun _ => 0)))) X.2 (.inr (17, ((kx_dv TX20 20).set 12 (.ref (X.2 + 1))).set 13 (.ref (X.2 + 2)))))) (.inl (0, 2, .inl (fun _ => 0))))) (dc := 1) (ds := 2) ?_ (C' := w_C w - 4) (S' := w_S w - 34) (by omega) (by omega) ?_
  · have e1 : newarray.typeOf .int = FieldType.int := rfl
    have e2 : (2 : Int32).toNatClampNeg = 2 := rfl
    have e3 : kx_na .int 2 = some (2, .inl (fun _ => 0)) := rfl
    show kx_st1 (zV E) _ _ _ (.newarray .int) 2 _ _ (.int 2 :: _) _ = _
    simp only [kx_st1, e1, e2, e3, ot_f0]
    rw [if_pos trivial, if_pos ⟨by decide, by decide, ot_0, ot_ai⟩]
    rfl
  refine ky_putf (M := kt_M230) (ci := 17) (fs := ((kx_dv TX20 20).set 12 (.ref (X.2 + 1))).set 13 (.ref (X.2 + 2))) (v := .ref (X.2 + 3)) kX20_init_c1.2.2.2.2.2.1 zT_f14 (show (kx_cl (zV E))[17]? = some ("MeetingHouse$Task", TX20, 20) from rfl) zT_k14 rfl rfl ?_ (by omega) rfl rfl (by simp [kx_dv_len]) ?_
  · simp [kx_push, kx_set] <;> omega
  refine ky_end kX20_init_c1.2.2.2.2.2.2.1 (by simp only [kx_st1]) (by simp only [kx_st2]) (v := none) rfl ?_
  show ky (zV E) F L M (pc + 4 + 3) lv (.ref X.2 :: st) _ _ _ _
  rw [show pc + 4 + 3 = pc + 7 from rfl]
  have hT : wR (zV E) wG E.2.1 E.2.2 (ws_task w) (kx_set (kx_push ((kx_set (kx_push ((kx_set (kx_push (kx_push X (.inr (17, kx_dv TX20 20))) (.inl (0, 4, .inl (fun _ => 0)))) X.2 (.inr (17, (kx_dv TX20 20).set 12 (.ref (X.2 + 1)))))) (.inl (0, 8, .inl (fun _ => 0)))) X.2 (.inr (17, ((kx_dv TX20 20).set 12 (.ref (X.2 + 1))).set 13 (.ref (X.2 + 2)))))) (.inl (0, 2, .inl (fun _ => 0)))) X.2 (.inr (17, (((kx_dv TX20 20).set 12 (.ref (X.2 + 1))).set 13 (.ref (X.2 + 2))).set 14 (.ref (X.2 + 3))))) := by
    refine wR.newT hX ?_ ?_ ?_ ?_ ?_ (fun q hq => ?_)
    · simp [kx_push, kx_set]
    · rw [← hz]
      simp [kx_push, kx_set, z_tfs]
    · rw [← hz]
      simp [kx_push, kx_set]
    · rw [← hz]
      simp [kx_push, kx_set]
    · rw [← hz]
      simp [kx_push, kx_set]
    · have q1 : q ≠ X.2 := by omega
      have q2 : q ≠ X.2 + 1 := by omega
      have q3 : q ≠ X.2 + 2 := by omega
      have q4 : q ≠ X.2 + 3 := by omega
      simp [kx_push, kx_set, q1, q2, q3, q4]
  have g := kk hA F hF _ hT
  rw [← hz] at g
  exact ky_mono g (fun r X C S ⟨w2, k1, k2, k3, k4, k5⟩ => ⟨w2, k1, wle_tr (wle_task hX) k2, k3, k4, k5⟩)
theorem ot_4 {E : zE} : (kx_tl (zV E))[4]? = some (.object "MeetingHouse$Sort") := rfl
theorem ot_5 {E : zE} : (kx_tl (zV E))[5]? = some (.object "MeetingHouse$Node") := rfl
theorem ot_6 {E : zE} : (kx_tl (zV E))[6]? = some (.object "MeetingHouse$Symbol") := rfl
theorem ot_7 {E : zE} : (kx_tl (zV E))[7]? = some (.object "MeetingHouse$Unit") := rfl
theorem ot_8 {E : zE} : (kx_tl (zV E))[8]? = some (.object "MeetingHouse$Task") := rfl
