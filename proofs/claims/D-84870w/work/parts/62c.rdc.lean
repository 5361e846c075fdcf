/-! ===== reads behind writes to another class ===== -/
theorem rd_i_ic {w : wS} {c o k c' o' k' : Nat} {v : Int32} (h : Nat.beq c' c = false) : w_i (ws_i w c o k v) c' o' k' = w_i w c' o' k' := by
  show w_u3 _ c o k v c' o' k' = _
  rw [w_u3_at, if_neg]
  · rfl
  · rintro ⟨-, e, -⟩
    rw [e, Nat.beq_refl] at h
    cases h
theorem rd_g_gc {w : wS} {c o k c' o' k' : Nat} {v : Int64} (h : Nat.beq c' c = false) : w_g (ws_g w c o k v) c' o' k' = w_g w c' o' k' := by
  show w_u3 _ c o k v c' o' k' = _
  rw [w_u3_at, if_neg]
  · rfl
  · rintro ⟨-, e, -⟩
    rw [e, Nat.beq_refl] at h
    cases h
theorem rd_p_pc {w : wS} {c o k c' o' k' : Nat} {v : Option Nat} (h : Nat.beq c' c = false) : w_p (ws_p w c o k v) c' o' k' = w_p w c' o' k' := by
  show w_u3 _ c o k v c' o' k' = _
  rw [w_u3_at, if_neg]
  · rfl
  · rintro ⟨-, e, -⟩
    rw [e, Nat.beq_refl] at h
    cases h
theorem rd_a_ac {w : wS} {c o k j c' o' k' j' : Nat} {v : Int32} (h : Nat.beq c' c = false) : w_a (ws_a w c o k j v) c' o' k' j' = w_a w c' o' k' j' := by
  show w_u4 _ c o k j v c' o' k' j' = _
  rw [w_u4_at, if_neg]
  · rfl
  · rintro ⟨-, e, -⟩
    rw [e, Nat.beq_refl] at h
    cases h
theorem rd_b_bc {w : wS} {c o k j c' o' k' j' : Nat} {v : Int64} (h : Nat.beq c' c = false) : w_b (ws_b w c o k j v) c' o' k' j' = w_b w c' o' k' j' := by
  show w_u4 _ c o k j v c' o' k' j' = _
  rw [w_u4_at, if_neg]
  · rfl
  · rintro ⟨-, e, -⟩
    rw [e, Nat.beq_refl] at h
    cases h
theorem rd_r_rc {w : wS} {c o k j c' o' k' j' : Nat} {v : Option Nat} (h : Nat.beq c' c = false) : w_r (ws_r w c o k j v) c' o' k' j' = w_r w c' o' k' j' := by
  show w_u4 _ c o k j v c' o' k' j' = _
  rw [w_u4_at, if_neg]
  · rfl
  · rintro ⟨-, e, -⟩
    rw [e, Nat.beq_refl] at h
    cases h
