/-! ===== ROUNDS, part 43: names that stand twice; KINDs ===== -/
section AGN
variable {D : pD} {V : pV} {nu : pN} {tn : Nat → Prop} {rt p q n nq m r d dq j k k' k0 f s u un y A c cr crq kd : Nat} {J J' Jq : List Nat} {S S' S0 S1 : nS} {w w2 w' t t' : wS} {v v2 : Option Nat} {x x1 x2 z y9 l : Int32} {T T' T1 T2 : Int} {kr ks : List Nat} {L L' Lc Ls Lk Lx Lt : Nat} {E E' : zE} {ol : Option Int32} {Q : kx_Rs → wS → Prop} {gc gt : pQ} {Φ : kx_Rs → wS → kx_Rs → wS → Prop}
/-! lists -/
theorem LPx.len : ∀ {l l' : List (Nat × Nat × Nat)} {a : Option Nat} {x x' y y' : Int32}, LPx V tn nu k ol l a x none y → LPx V tn nu k ol l' a x' none y' → l.length = l'.length
  | [], [], _, _, _, _, _, _, _ => rfl
  | [], _ :: _, _, _, _, _, _, h, h' => by
    have h1 := h.1
    have h2 := h'.1
    rw [h1] at h2
    cases h2
  | _ :: _, [], _, _, _, _, _, h, h' => by
    have h1 := h.1
    have h2 := h'.1
    rw [h2] at h1
    cases h1
  | z :: l, z' :: l', a, x, x', y, y', h, h' => by
    obtain ⟨h1, -, -, h4⟩ := h
    obtain ⟨g1, -, -, g4⟩ := h'
    rw [h1] at g1
    injection g1 with e
    rw [← e] at g4
    rw [List.length_cons, List.length_cons, LPx.len h4 g4]
theorem LPx.tlm : ∀ {l : List (Nat × Nat × Nat)} {a : Option Nat} {x y : Int32}, LPx V tn nu k ol l a x none y → ∀ z ∈ l, ∃ l2 x2, LPx V tn nu k ol l2 (some z.2.1) x2 none y ∧ l2.length ≤ l.length
  | [], _, _, _, _, z, hz => absurd hz List.not_mem_nil
  | z0 :: l, a, x, y, h, z, hz => by
    rcases List.mem_cons.mp hz with e | e
    · subst e
      refine ⟨z :: l, x, ?_, Nat.le_refl _⟩
      rw [← h.1]
      exact h
    · obtain ⟨l2, x2, h1, h2⟩ := LPx.tlm h.2.2.2 z e
      exact ⟨l2, x2, h1, by rw [List.length_cons]; omega⟩
theorem LPx.nd : ∀ {l : List (Nat × Nat × Nat)} {a : Option Nat} {x y : Int32}, LPx V tn nu k ol l a x none y → (l.map (fun z => z.2.1)).Nodup
  | [], _, _, _, _ => List.nodup_nil
  | z :: l, a, x, y, h => by
    rw [List.map_cons, List.nodup_cons]
    refine ⟨fun hm => ?_, LPx.nd h.2.2.2⟩
    obtain ⟨z', hz, e⟩ := List.mem_map.mp hm
    obtain ⟨l2, x2, h1, h2⟩ := LPx.tlm h.2.2.2 z' hz
    rw [e, ← h.1] at h1
    have := LPx.len h h1
    rw [List.length_cons] at this
    omega
/-! faults, one behind the other -/
theorem ws_i4 {c o k k2 : Nat} {a b a' b' : Int32} : ws_i (ws_i (ws_i (ws_i w c o k a) c o k2 b) c o k a') c o k2 b' = ws_i (ws_i w c o k a') c o k2 b' := by
  refine Prod.ext ?_ rfl
  funext x y z
  show (w_u3 (w_u3 (w_u3 (w_u3 w.1 c o k a) c o k2 b) c o k a') c o k2 b') x y z = (w_u3 (w_u3 w.1 c o k a') c o k2 b') x y z
  unfold w_u3
  cases w_k3 c o k2 x y z <;> cases w_k3 c o k x y z <;> rfl
theorem ru_ru (h : fkk (w_i w 2 0 1)) (h1 : FTK T1) (h2 : FTK T2) : ru (ru w T1) T2 = ru w (min T1 T2) := by
  have e := (ru_fcc h h1).1
  by_cases c : fcc w ≤ T1
  · rw [show ru w T1 = w from if_pos c]
    unfold ru
    by_cases d : fcc w ≤ T2
    · rw [if_pos d, if_pos (by omega)]
    · rw [if_neg d, if_neg (by omega), show min T1 T2 = T2 by omega]
  · have e1 : fcc (ru w T1) = T1 := by omega
    by_cases d : T1 ≤ T2
    · rw [show ru (ru w T1) T2 = ru w T1 from if_pos (by omega), show min T1 T2 = T1 by omega]
    · rw [show min T1 T2 = T2 by omega]
      have y1 : ru w T1 = ws_i (ws_i w 2 0 1 (i_ (T1 % 16))) 2 0 2 (i_ (T1 / 16)) := if_neg c
      have y2 : ru w T2 = ws_i (ws_i w 2 0 1 (i_ (T2 % 16))) 2 0 2 (i_ (T2 / 16)) := if_neg (by omega)
      have y3 : ru (ru w T1) T2 = ws_i (ws_i (ru w T1) 2 0 1 (i_ (T2 % 16))) 2 0 2 (i_ (T2 / 16)) := if_neg (by omega)
      rw [y3, y2, y1]
      exact ws_i4
theorem tu_tu (h : fkk (w_i t 12 0 64)) (h1 : FTK T1) (h2 : FTK T2) : tu (tu t T1) T2 = tu t (min T1 T2) := by
  have e := (tu_fct h h1).1
  by_cases c : fct t ≤ T1
  · rw [show tu t T1 = t from if_pos c]
    unfold tu
    by_cases d : fct t ≤ T2
    · rw [if_pos d, if_pos (by omega)]
    · rw [if_neg d, if_neg (by omega), show min T1 T2 = T2 by omega]
  · have e1 : fct (tu t T1) = T1 := by omega
    by_cases d : T1 ≤ T2
    · rw [show tu (tu t T1) T2 = tu t T1 from if_pos (by omega), show min T1 T2 = T1 by omega]
    · rw [show min T1 T2 = T2 by omega]
      have y1 : tu t T1 = ws_i (ws_i t 12 0 64 (i_ (T1 % 16))) 12 0 65 (i_ (T1 / 16)) := if_neg c
      have y2 : tu t T2 = ws_i (ws_i t 12 0 64 (i_ (T2 % 16))) 12 0 65 (i_ (T2 / 16)) := if_neg (by omega)
      have y3 : tu (tu t T1) T2 = ws_i (ws_i (tu t T1) 12 0 64 (i_ (T2 % 16))) 12 0 65 (i_ (T2 / 16)) := if_neg (by omega)
      rw [y3, y2, y1]
      exact ws_i4
/-! names that stand twice -/
/-- a node's name stands ahead of it -/
def dpN (V : pV) (pre : List Nat) (n : Nat) : Int := if ∃ m ∈ pre, V.2.2.1 30 m = V.2.2.1 30 n then fln 4 (V.2.2.1 27 n) else NOF
def agT (V : pV) : List Nat → List Nat → Int
  | _, [] => NOF
  | pre, n :: l => min (dpN V pre n) (agT V (pre ++ [n]) l)
theorem dpN_ok {pre : List Nat} : FTK (dpN V pre n) := by
  unfold dpN
  split
  · exact .inr ⟨4, _, ⟨by decide, by decide⟩, rfl⟩
  · exact .inl rfl
theorem agT_ok : ∀ {l pre : List Nat}, FTK (agT V pre l)
  | [], _ => .inl rfl
  | _ :: _, _ => FTK.min dpN_ok agT_ok
theorem dpN_cons {pre : List Nat} {m : Nat} : dpN V (m :: pre) n = min (if V.2.2.1 30 m = V.2.2.1 30 n then fln 4 (V.2.2.1 27 n) else NOF) (dpN V pre n) := by
  have hlt := (fln_m (k := 4) (l := V.2.2.1 27 n) ⟨by decide, by decide⟩).2.2
  unfold dpN
  by_cases c : V.2.2.1 30 m = V.2.2.1 30 n
  · rw [if_pos ⟨m, List.mem_cons_self, c⟩, if_pos c]
    split <;> omega
  · rw [if_neg c]
    by_cases c2 : ∃ m ∈ pre, V.2.2.1 30 m = V.2.2.1 30 n
    · obtain ⟨m', h1, h2⟩ := c2
      rw [if_pos ⟨m', List.mem_cons_of_mem _ h1, h2⟩, if_pos ⟨m', h1, h2⟩]
      omega
    · have h3 : ¬ ∃ m' ∈ m :: pre, V.2.2.1 30 m' = V.2.2.1 30 n := fun ⟨m', h1, h2⟩ => by
        rcases List.mem_cons.mp h1 with e | e
        · exact c (by rw [← e]; exact h2)
        · exact c2 ⟨m', e, h2⟩
      rw [if_neg c2, if_neg h3] <;> omega
/-- what a node must be for it -/
def NMD (D : pD) (V : pV) (nu : pN) (z : Nat × Nat × Nat) : Prop := nmr D (V.1 z.2.1 9) (V.2.2.1 30 z.1) ∧ V.1 z.2.1 2 = V.2.2.1 27 z.1 ∧ nu z.2.1 ≠ none
theorem c_ag8 {a0 : Option Nat} (hN : NDD D) (hL : 62 ≤ L) {zq : Nat × Nat × Nat} (hq : NMD D V nu zq) : ∀ {pre : List (Nat × Nat × Nat)} {w : wS} {x3 : Option Nat} {x : Int32}, TRCn D V nu w → fkk (w_i w 2 0 1) → LPx V tn nu k0 ol pre x3 x (some zq.2.1) (i_ zq.1) → (∀ z ∈ pre, z.2.1 ≠ zq.2.1 ∧ NMD D V nu z) → zL_X6_again_p2 D.1 L Q a0 (V.2.1 zq.2.1 7) (ru w (dpN V (pre.map (fun z => z.1)) zq.1)) → zL_X6_again_p8 D.1 L Q a0 (some zq.2.1) x3 w
  | [], w, x3, x, hT, hf, hl, hp, h => by
    have e : x3 = some zq.2.1 := hl.1
    subst e
    have e2 : dpN V (([] : List (Nat × Nat × Nat)).map (fun z => z.1)) zq.1 = NOF := if_neg (fun ⟨m, h1, _⟩ => absurd h1 List.not_mem_nil)
    rw [e2, ru_nof hf] at h
    refine zt_X6_again_p8 (by omega) ?_
    simp only [zb_X6_again_p8]
    rw [if_pos trivial]
    obtain ⟨h1, h2, -⟩ := hT zq.2.1 hq.2.2
    refine ⟨zq.2.1, rfl, h1, ?_⟩
    rw [h2 7 (by decide)]
    exact h
  | z :: pre, w, x3, x, hT, hf, hl, hp, h => by
    obtain ⟨e1, -, -, e4⟩ := hl
    subst e1
    obtain ⟨hne, hz⟩ := hp z List.mem_cons_self
    obtain ⟨g1, g2, g3, -⟩ := hT z.2.1 hz.2.2
    obtain ⟨h1, h2, h3, -⟩ := hT zq.2.1 hq.2.2
    rw [List.map_cons, dpN_cons] at h
    refine zt_X6_again_p8 (by omega) ?_
    simp only [zb_X6_again_p8, zb_X6_again_p36]
    rw [if_neg (by simpa using hne)]
    refine ⟨z.2.1, rfl, g1, zq.2.1, rfl, h1, ?_⟩
    rw [g3 9 (by decide), h3 9 (by decide), h3 2 (by decide), hq.2.1]
    have hi : V.1 z.2.1 9 = V.1 zq.2.1 9 ↔ V.2.2.1 30 z.1 = V.2.2.1 30 zq.1 := nm_iff hN (.inl hz.1) hq.1
    by_cases c : V.2.2.1 30 z.1 = V.2.2.1 30 zq.1
    · rw [if_neg (not_not_intro (hi.mpr c))]
      rw [if_pos c, ← ru_ru hf (.inr ⟨4, _, ⟨by decide, by decide⟩, rfl⟩) dpN_ok] at h
      refine c_rule (k := 4) (by omega) hf ⟨by decide, by decide⟩ ?_
      intro _
      obtain ⟨i1, i2, -⟩ := hT.rul (T := fln 4 (V.2.2.1 27 zq.1)) z.2.1 hz.2.2
      refine ⟨z.2.1, rfl, i1, ?_⟩
      rw [i2 7 (by decide)]
      exact c_ag8 hN hL hq hT.rul (ru_fcc hf (.inr ⟨4, _, ⟨by decide, by decide⟩, rfl⟩)).2 e4 (fun z' hz' => hp z' (List.mem_cons_of_mem _ hz')) h
    · rw [if_pos (fun e => c (hi.mp e))]
      have em : min NOF (dpN V (pre.map (fun z => z.1)) zq.1) = dpN V (pre.map (fun z => z.1)) zq.1 := by
        have := (dpN_ok (V := V) (n := zq.1) (pre := pre.map (fun z => z.1))).le
        omega
      rw [if_neg c, em] at h
      refine ⟨z.2.1, rfl, g1, ?_⟩
      rw [g2 7 (by decide)]
      exact c_ag8 hN hL hq hT hf e4 (fun z' hz' => hp z' (List.mem_cons_of_mem _ hz')) h
theorem c_ag2 (hN : NDD D) (hL : 62 ≤ L) {a0 : Option Nat} {x0 : Int32} : ∀ {post pre : List (Nat × Nat × Nat)} {w : wS} {b : Option Nat} {y : Int32}, TRCn D V nu w → fkk (w_i w 2 0 1) → LPx V tn nu k0 ol pre a0 x0 b y → LPx V tn nu k0 ol post b y none (-1) → ((pre ++ post).map (fun z => z.2.1)).Nodup → (∀ z ∈ pre ++ post, NMD D V nu z) → Q (.inl none) (ru w (agT V (pre.map (fun z => z.1)) (post.map (fun z => z.1)))) → zL_X6_again_p2 D.1 L Q a0 b w
  | [], pre, w, b, y, hT, hf, hl, hl2, hn, hp, h => by
    have e : b = none := hl2.1
    subst e
    have e2 : agT V (pre.map (fun z => z.1)) (([] : List (Nat × Nat × Nat)).map (fun z => z.1)) = NOF := rfl
    rw [e2, ru_nof hf] at h
    refine zt_X6_again_p2 (by omega) ?_
    simp only [zb_X6_again_p2]
    rw [if_pos trivial]
    exact h
  | z :: post, pre, w, b, y, hT, hf, hl, hl2, hn, hp, h => by
    obtain ⟨e1, e2, e3, e4⟩ := hl2
    subst e1 e2
    have ea : agT V (pre.map (fun z => z.1)) ((z :: post).map (fun z => z.1)) = min (dpN V (pre.map (fun z => z.1)) z.1) (agT V ((pre ++ [z]).map (fun z => z.1)) (post.map (fun z => z.1))) := by
      rw [List.map_cons, List.map_append]
      rfl
    rw [ea, ← ru_ru hf dpN_ok agT_ok] at h
    refine zt_X6_again_p2 (by omega) ?_
    simp only [zb_X6_again_p2]
    rw [if_neg (by simp)]
    refine c_ag8 hN hL (hp z (by simp)) hT hf hl (fun z' hz' => ⟨fun e => ?_, hp z' (by simp [hz'])⟩) ?_
    · rw [List.map_append, List.nodup_append] at hn
      exact hn.2.2 z'.2.1 (List.mem_map.mpr ⟨z', hz', rfl⟩) z.2.1 (List.mem_map.mpr ⟨z, List.mem_cons_self, rfl⟩) e
    · exact c_ag2 hN hL hT.rul (ru_fcc hf dpN_ok).2 (LPx.snoc hl e3) e4 (by rw [List.append_assoc]; exact hn) (by rw [List.append_assoc]; exact hp) h
/-- MeetingHouse tells names that stand twice -/
theorem c_again (hN : NDD D) (hL : 84 ≤ L) {l : List (Nat × Nat × Nat)} {a : Option Nat} (hT : TRCn D V nu w) (hf : fkk (w_i w 2 0 1)) (hl : LPx V tn nu k0 ol l a x none (-1)) (hp : ∀ z ∈ l, NMD D V nu z) (h : Q (.inl none) (ru w (agT V [] (l.map (fun z => z.1))))) : zw D.1 L kt_M132 [.ref (w_adr D.1.2.1 5 0), va_rf a] w Q := by
  have hr : zL_X6_again_p2 D.1 L Q a a w := c_ag2 (pre := []) hN (by omega) hT hf ⟨rfl, rfl⟩ hl (LPx.nd hl) hp h
  have hz : zb_X6_again_p0 D.1 L Q a w := hr
  cases a <;> exact zt_X6_again_p0 (by omega) hz
/-- the twin's symbols of these places: one has the name -/
def dpF (t : wS) : Nat → Nat → Int32 → Int32 → Int
  | _, 0, _, _ => NOF
  | a, g + 1, y, l => min (if w_a t 12 0 45 a = y then fln 4 l else NOF) (dpF t (a + 1) g y l)
theorem dpF_ok : ∀ {g a : Nat}, FTK (dpF t a g x l)
  | 0, _ => .inl rfl
  | g + 1, a => by
    refine FTK.min ?_ dpF_ok
    split
    · exact .inr ⟨4, _, ⟨by decide, by decide⟩, rfl⟩
    · exact .inl rfl
theorem dpF_nil {a : Nat} : dpF t a 0 x l = NOF := rfl
theorem dpF_st {a g : Nat} : dpF t a (g + 1) x l = min (if w_a t 12 0 45 a = x then fln 4 l else NOF) (dpF t (a + 1) g x l) := rfl
theorem dpF_tu : ∀ {g a : Nat}, dpF (tu t T) a g x l = dpF t a g x l
  | 0, _ => rfl
  | g + 1, a => by rw [dpF_st, dpF_st, tu_a, dpF_tu]
/-- as the nodes say it -/
theorem dpF_N : ∀ {pre : List Nat} {s : Nat}, (∀ i, i < pre.length → w_a t 12 0 45 (s + i) = V.2.2.1 30 (pre.getD i 0)) → dpF t s pre.length (V.2.2.1 30 n) (V.2.2.1 27 n) = dpN V pre n
  | [], s, _ => (if_neg (fun ⟨m, h1, _⟩ => absurd h1 List.not_mem_nil)).symm
  | m :: pre, s, h => by
    have h0 : w_a t 12 0 45 s = V.2.2.1 30 m := h 0 (by simp)
    have h1 := dpF_N (pre := pre) (s := s + 1) (fun i hi => by
      have := h (i + 1) (by rw [List.length_cons]; omega)
      rw [show s + 1 + i = s + (i + 1) by omega, this]
      rfl)
    rw [dpN_cons, List.length_cons, dpF_st, h0, h1]
/-! KINDs -/
def KY1 (w : wS) (A : Nat) (y : Int32) : Prop := ∃ c : Nat, c < 3 ∧ w_i w 15 A 5 = i_ (c + 1 : Nat) ∧ w_p w 15 A 15 = none ∧ y = i_ c
def KY2 (w t : wS) (ys : Nat → Option Nat) (A : Nat) (y : Int32) : Prop := w_i w 15 A 5 = 0 ∧ ((w_p w 15 A 15 = none ∧ y = i_ (-1)) ∨ ∃ sp P : Nat, w_p w 15 A 15 = some P ∧ ys sp = some P ∧ y = i_ (16 + sp : Nat) ∧ sp < 6100 ∧ w_a t 12 0 46 sp = i_ 5)
def kiV (t : wS) (kr : List Nat) (x : Int32) : Int32 := if x < 0 then (match f2v t 5 (fnd t kr (-2 - x)) with | none => -1 | some s => i_ (16 + s : Nat)) else x
def kiT (t : wS) (kr : List Nat) (x l : Int32) : Int := if x < 0 then f2T t 5 (fnd t kr (-2 - x)) l else NOF
theorem kiT_ok : FTK (kiT t kr x l) := by
  unfold kiT
  split
  · exact f2T_ok
  · exact .inl rfl
/-- the twin's -/
theorem t_kof (hI : IVN D V nu tn rt S) (hs : STR D V nu tn rt) (hk : KRE S kr) (hL : 123 ≤ L') (hq : Q (.inl (some (.int (kiV S.t kr x)))) (tu S.t (kiT S.t kr x l))) : zw E' L' kt_M454 [.ref (w_adr E'.2.1 12 0), .int x, .int l] S.t Q := by
  refine zt_X13_kindOf_p0 (by omega) ?_
  have hf := hI.2.2.2.2.2.2.1.2
  unfold kiV kiT at hq
  simp only [zb_X13_kindOf_p0]
  by_cases c : x < 0
  · rw [if_pos c]
    rw [if_pos c, if_pos c] at hq
    refine hI.tf hs hk (by omega) ?_
    have hfy := fnd_ys (t := S.t) hI hk (y := -2 - x)
    generalize fnd S.t kr (-2 - x) = rr at hfy hq ⊢
    cases rr with
    | none =>
      simp only [sno, wk1]
      intro _
      rw [if_neg (by simp)]
      exact hq
    | some s =>
      cases ea : S.ys s with
      | none => exact absurd ea (hfy s rfl)
      | some A =>
        obtain ⟨c, g2, g3, g4, g5, g6⟩ := hI.sy ea
        have e2 : fT (some s) l = NOF := rfl
        simp only [sno, wk1, e2, tu_nof hf, i_nat' (show s < 2147483648 by omega), g3]
        intro _
        unfold f2v f2T at hq
        simp only [Option.bind_some, g3] at hq
        have e5 : ((i_ c : Int32) = 5) = (c = 5) := i_c1 g2.2 5 (by decide)
        have e5' : ((i_ c : Int32) = i_ (5 : Nat)) = (c = 5) := i_c1 g2.2 5 (by decide)
        simp only [e5'] at hq
        rw [if_pos (by rw [i_m1, i_eq (by omega) (by omega)]; omega)]
        refine ⟨hI.1.2.1.sy rfl g6, ?_⟩
        simp only [e5]
        by_cases c5 : c = 5
        · rw [if_pos c5]
          rw [if_pos c5, if_pos c5, tu_nof hf] at hq
          have e16 : (16 : Int32) + i_ s = i_ (16 + s : Nat) := by
            rw [show (16 : Int32) = i_ 16 from rfl, i_add]
            congr 1
          rw [e16]
          exact hq
        · rw [if_neg c5]
          rw [if_neg c5, if_neg c5] at hq
          exact t_tells (k := 6) (by omega) hf ⟨by decide, by decide⟩ (fun _ => hq)
  · rw [if_neg c]
    rw [if_neg c, if_neg c, tu_nof hf] at hq
    exact hq
/-- what stays where a KIND is read -/
def KFr (w w1 : wS) (A : Nat) : Prop := (∀ k, k ≠ 5 → w_i w1 15 A k = w_i w 15 A k) ∧ (∀ k, k ≠ 15 → w_p w1 15 A k = w_p w 15 A k) ∧ (∀ a k, w_i w1 14 a k = w_i w 14 a k ∧ w_p w1 14 a k = w_p w 14 a k) ∧ (w_i w1 5 0 4 = w_i w 5 0 4 ∧ w_p w1 5 0 3 = w_p w 5 0 3) ∧ ∀ A', A' ≠ A → ∀ k, w_i w1 15 A' k = w_i w 15 A' k ∧ w_p w1 15 A' k = w_p w 15 A' k
theorem KFr.rf : KFr w w A := ⟨fun _ _ => rfl, fun _ _ => rfl, fun _ _ => ⟨rfl, rfl⟩, ⟨rfl, rfl⟩, fun _ _ _ => ⟨rfl, rfl⟩⟩
theorem KFr.i (h : KFr w w' A) : KFr w (ws_i w' 15 A 5 x) A := by
  obtain ⟨h1, h2, h3, h4, h5⟩ := h
  refine ⟨fun k hk => ?_, fun k hk => h2 k hk, fun a k => ⟨?_, (h3 a k).2⟩, ⟨?_, h4.2⟩, fun A' hA k => ⟨?_, (h5 A' hA k).2⟩⟩
  · rw [Rii, if_neg (fun z => hk z.1)]
    exact h1 k hk
  · rw [Rii, if_neg (fun z => absurd z.2.1 (by decide))]
    exact (h3 a k).1
  · rw [Rii, if_neg (fun z => absurd z.2.1 (by decide))]
    exact h4.1
  · rw [Rii, if_neg (fun z => hA z.2.2)]
    exact (h5 A' hA k).1
theorem KFr.pf (h : KFr w w' A) : KFr w (ws_p w' 15 A 15 v) A := by
  obtain ⟨h1, h2, h3, h4, h5⟩ := h
  refine ⟨fun k hk => h1 k hk, fun k hk => ?_, fun a k => ⟨(h3 a k).1, ?_⟩, ⟨h4.1, ?_⟩, fun A' hA k => ⟨(h5 A' hA k).1, ?_⟩⟩
  · rw [Rpp, if_neg (fun z => hk z.1)]
    exact h2 k hk
  · rw [Rpp, if_neg (fun z => absurd z.2.1 (by decide))]
    exact (h3 a k).2
  · rw [Rpp, if_neg (fun z => absurd z.2.1 (by decide))]
    exact h4.2
  · rw [Rpp, if_neg (fun z => hA z.2.2)]
    exact (h5 A' hA k).2
theorem KFr.ru (h : KFr w w' A) : KFr w (ru w' T) A := by
  obtain ⟨h1, h2, h3, h4, h5⟩ := h
  refine ⟨fun k hk => ?_, fun k hk => ?_, fun a k => ⟨?_, ?_⟩, ⟨?_, ?_⟩, fun A' hA k => ⟨?_, ?_⟩⟩
  all_goals first | rw [ru_i (by decide)] | rw [ru_p]
  · exact h1 k hk
  · exact h2 k hk
  · exact (h3 a k).1
  · exact (h3 a k).2
  · exact h4.1
  · exact h4.2
  · exact (h5 A' hA k).1
  · exact (h5 A' hA k).2
theorem FRA.cru (h : FRA D S A) : FRA D (S.wt (ru S.w T) t') A := by
  have h3 := h.2.2
  refine ⟨⟨h.1.1, by obtain ⟨z, e1, e2⟩ := h.1.2; exact ⟨z, (ru_i (by decide)).trans e1, e2⟩⟩, h.2.1, ?_⟩
  show w_l (ru S.w T) D.1.2.1 15 A
  unfold ru
  split
  · exact h3
  · exact h3
/-- MeetingHouse's, no channel -/
theorem n_ck0 {Ac : (kx_Rs → wS → Prop) → wS → Prop} {X : (kx_Rs → wS → Prop) → String → wS → Prop} (H : HM D V nu tn rt p J cr S0 S T T') (hA : FRA D S A) (hnu : nu q = some (m, r, d)) (h14 : V.1 q 14 = 0) (hL : 180 ≤ L) (kk : HM D V nu tn rt p J cr S0 (S.wt (ws_i S.w 15 A 5 (V.1 q 8)) S.t) T T' → FRA D (S.wt (ws_i S.w 15 A 5 (V.1 q 8)) S.t) A → PS (fun Q => Ac Q (ws_i S.w 15 A 5 (V.1 q 8))) gt Φ) :
    PS (fun Q => zw D.1 L kt_M145 [.ref (w_adr D.1.2.1 5 0), va_rf (some q), va_rf (some A)] S.w (wk0 (fun w1 => wle S.w w1 → Ac Q w1) (X Q))) gt Φ := by
  have hw := H.1.nw hnu
  obtain ⟨H1, hA1⟩ := H.i15 hA (k := 5) (x := V.1 q 8)
  have hw1 := H1.1.nw hnu
  refine PS_l (fun Q h => zt_X6_kind_p0 (by omega) h) ?_
  simp only [zb_X6_kind_p0, zb_X6_kind_p26, zb_X6_kind_p44]
  have e14 : w_i (ws_i S.w 15 A 5 (V.1 q 8)) 14 q 14 = 0 := (hw1.2.2 14 (by decide)).trans h14
  refine PS_lex q rfl (PS_land hw.1 (PS_lex A rfl (PS_land hA.2.2 ?_)))
  simp only [hw.2.2 14 (by decide), h14, hw.2.2 8 (by decide)]
  refine PS_lp (by first | trivial | decide) (PS_lex q rfl (PS_land hw1.1 ?_))
  simp only [e14]
  refine PS_lp (by first | trivial | decide) ?_
  exact PS_l (fun Q a => fun _ => a) (kk H1 hA1)
/-- of channels -/
theorem n_ck1 {Ac : (kx_Rs → wS → Prop) → wS → Prop} {X : (kx_Rs → wS → Prop) → String → wS → Prop} (hs : STR D V nu tn rt) (H : HM D V nu tn rt p J cr S0 S T T') (hk : KRE S kr) (hA : FRA D S A) (h15 : w_p S.w 15 A 15 = none) (hnu : nu q = some (m, r, d)) (h14 : V.1 q 14 = 1) (hK : KN D V nu (V.2.1 q 5) (V.2.2.1 33 m)) (h2 : V.1 q 2 = V.2.2.1 27 m) (hL : 180 ≤ L) (kk : ∀ w1 : wS, HM D V nu tn rt p J cr S0 (S.wt w1 S.t) (min T (kiT S.t kr (V.2.2.1 33 m) (V.2.2.1 27 m))) T' → FRA D (S.wt w1 S.t) A → NX nu S (S.wt w1 S.t) → KFr S.w w1 A → KY1 w1 A (kiV S.t kr (V.2.2.1 33 m)) ∨ KY2 w1 S.t S.ys A (kiV S.t kr (V.2.2.1 33 m)) → PS (fun Q => Ac Q w1) gt Φ) :
    PS (fun Q => zw D.1 L kt_M145 [.ref (w_adr D.1.2.1 5 0), va_rf (some q), va_rf (some A)] S.w (wk0 (fun w1 => wle S.w w1 → Ac Q w1) (X Q))) gt Φ := by
  have hw := H.1.nw hnu
  have hTT := H.2.2.2.2.1
  obtain ⟨pk, e5, hk0, ⟨rk, dk, hnk⟩, hN⟩ := hK
  have hwk := H.1.nw hnk
  obtain ⟨H1, hA1⟩ := H.i15 hA (k := 5) (x := V.1 q 8)
  have hx1 : NX nu S (S.wt (ws_i S.w 15 A 5 (V.1 q 8)) S.t) := NX.wt (w' := ws_i S.w 15 A 5 (V.1 q 8)) (t' := S.t) (fun s A' hs' k => ⟨by rw [Rii, if_neg (fun z => hA.2.1 s (by rw [← z.2.2]; exact hs'))], rfl⟩) (fun _ _ => rfl) (fun b _ => ⟨⟨rfl, rfl⟩, fun _ _ _ _ _ _ => rfl⟩)
  have hw1 := H1.1.nw hnu
  have hwk1 := H1.1.nw hnk
  refine PS_l (fun Q h => zt_X6_kind_p0 (by omega) h) ?_
  have e14 : ∀ x : Int32, w_i (ws_i S.w 15 A 5 x) 14 q 14 = 1 := fun x => by
    rw [Rii, if_neg (fun z => absurd z.2.1 (by decide)), hw.2.2 14 (by decide), h14]
  have e58 : ∀ x : Int32, w_i (ws_i S.w 15 A 5 x) 14 pk 8 = V.1 pk 8 := fun x => by
    rw [Rii, if_neg (fun z => absurd z.2.1 (by decide)), hwk.2.2 8 (by decide)]
  have p55 : ∀ x : Int32, w_p (ws_i S.w 15 A 5 x) 14 q 5 = some pk := fun x => (hw.2.1 5 (by decide)).trans e5
  simp only [zb_X6_kind_p0, zb_X6_kind_p26, zb_X6_kind_p44]
  refine PS_lex q rfl (PS_land hw.1 (PS_lex A rfl (PS_land hA.2.2 ?_)))
  simp only [hw.2.2 14 (by decide), h14, hw.2.2 8 (by decide), hw.2.2 2 (by decide), h2, hw.2.1 5 (by decide), e5]
  refine PS_ln (by decide) (PS_lex pk rfl (PS_land hwk1.1 ?_))
  simp only [hwk.2.2 9 (by decide)]
  rcases hN with ⟨⟨cy, hcy, hy8, hy33⟩, h9⟩ | ⟨cn, hcn, hx33, hnm, h8⟩
  · refine PS_ln (not_not_intro h9) (PS_lex q rfl (PS_land hw1.1 ?_))
    simp only [e14, p55]
    refine PS_ln (by decide) (PS_lex pk rfl (PS_land hwk1.1 (PS_lex A rfl (PS_land hA1.2.2 ?_))))
    simp only [e58]
    obtain ⟨H2, hA2⟩ := H1.i15 hA1 (k := 5) (x := V.1 pk 8)
    have hx2 : NX nu (S.wt (ws_i S.w 15 A 5 (V.1 q 8)) S.t) (S.wt (ws_i (ws_i S.w 15 A 5 (V.1 q 8)) 15 A 5 (V.1 pk 8)) S.t) := NX.wt (S := S.wt (ws_i S.w 15 A 5 (V.1 q 8)) S.t) (w' := ws_i (ws_i S.w 15 A 5 (V.1 q 8)) 15 A 5 (V.1 pk 8)) (t' := S.t) (fun s A' hs' k => ⟨by rw [Rii, if_neg (fun z => hA.2.1 s (by rw [← z.2.2]; exact hs'))]; rfl, rfl⟩) (fun _ _ => rfl) (fun b _ => ⟨⟨rfl, rfl⟩, fun _ _ _ _ _ _ => rfl⟩)
    have hlt : ¬ V.2.2.1 33 m < 0 := by rw [hy33]; exact i_nn (by omega)
    have eT : kiT S.t kr (V.2.2.1 33 m) (V.2.2.1 27 m) = NOF := if_neg hlt
    have eV : kiV S.t kr (V.2.2.1 33 m) = V.2.2.1 33 m := if_neg hlt
    have em : min T NOF = T := by have := hTT.1.le; omega
    refine PS_l (fun Q a => fun _ => a) (kk _ (by rw [eT, em]; exact H2) hA2 (hx1.tr hx2 (.inl rfl)) KFr.rf.i.i (.inl ⟨cy, hcy, ?_, ?_, by rw [eV]; exact hy33⟩))
    · rw [Rii, if_pos ⟨rfl, rfl, rfl⟩]
      exact hy8
    · exact h15
  · have h9 : ¬ V.1 pk 9 = (-1) := by
      obtain ⟨b, b', ⟨e1, -⟩, ⟨h1, -, h2, -⟩, -⟩ := hnm
      rw [e1, i_m1, i_eq (by omega) (by omega)]
      omega
    obtain ⟨H2, hA2⟩ := H1.i15 hA1 (k := 5) (x := 0)
    have hx2 : NX nu (S.wt (ws_i S.w 15 A 5 (V.1 q 8)) S.t) (S.wt (ws_i (ws_i S.w 15 A 5 (V.1 q 8)) 15 A 5 0) S.t) := NX.wt (S := S.wt (ws_i S.w 15 A 5 (V.1 q 8)) S.t) (w' := ws_i (ws_i S.w 15 A 5 (V.1 q 8)) 15 A 5 0) (t' := S.t) (fun s A' hs' k => ⟨by rw [Rii, if_neg (fun z => hA.2.1 s (by rw [← z.2.2]; exact hs'))]; rfl, rfl⟩) (fun _ _ => rfl) (fun b _ => ⟨⟨rfl, rfl⟩, fun _ _ _ _ _ _ => rfl⟩)
    have hlt : V.2.2.1 33 m < 0 := by
      rw [hx33, i_0, i_lt (by omega) (by omega)]
      omega
    have ey : (-2 : Int32) - V.2.2.1 33 m = i_ cn := by
      rw [hx33, show (-2 : Int32) = i_ (-2) from rfl, i_sub]
      congr 1
      omega
    have eT : kiT S.t kr (V.2.2.1 33 m) (V.2.2.1 27 m) = f2T S.t 5 (fnd S.t kr (i_ cn)) (V.2.2.1 27 m) := by
      unfold kiT
      rw [if_pos hlt, ey]
    have eV : kiV S.t kr (V.2.2.1 33 m) = match f2v S.t 5 (fnd S.t kr (i_ cn)) with | none => -1 | some s => i_ (16 + s : Nat) := by
      unfold kiV
      rw [if_pos hlt, ey]
    rw [eT, eV] at kk
    refine PS_lp h9 ?_
    have hk2 : KRE (S.wt (ws_i (ws_i S.w 15 A 5 (V.1 q 8)) 15 A 5 0) S.t) kr := hk
    refine PS_lr (fun Q hq => H2.1.cf2 hs hk2 wc_5 hnm (by omega) hq) ?_
    have hfy := fnd_ys (t := S.t) H.1 hk (y := i_ cn)
    have H3 := H2.cru (f2T_ok (t := S.t) (C := 5) (rr := fnd S.t kr (i_ cn)) (l := V.2.2.1 27 m))
    have hA3 : FRA D (S.wt (ru (ws_i (ws_i S.w 15 A 5 (V.1 q 8)) 15 A 5 0) (f2T S.t 5 (fnd S.t kr (i_ cn)) (V.2.2.1 27 m))) S.t) A := hA2.cru
    obtain ⟨H4, hA4⟩ := H3.p15 hA3 (k := 15) (v := (f2v S.t 5 (fnd S.t kr (i_ cn))).bind S.ys)
    have hx3 : NX nu (S.wt (ws_i (ws_i S.w 15 A 5 (V.1 q 8)) 15 A 5 0) S.t) (S.wt (ws_p (ru (ws_i (ws_i S.w 15 A 5 (V.1 q 8)) 15 A 5 0) (f2T S.t 5 (fnd S.t kr (i_ cn)) (V.2.2.1 27 m))) 15 A 15 ((f2v S.t 5 (fnd S.t kr (i_ cn))).bind S.ys)) S.t) := NX.wt (S := S.wt (ws_i (ws_i S.w 15 A 5 (V.1 q 8)) 15 A 5 0) S.t) (w' := ws_p (ru (ws_i (ws_i S.w 15 A 5 (V.1 q 8)) 15 A 5 0) (f2T S.t 5 (fnd S.t kr (i_ cn)) (V.2.2.1 27 m))) 15 A 15 ((f2v S.t 5 (fnd S.t kr (i_ cn))).bind S.ys)) (t' := S.t) (fun s A' hs' k => ⟨by rw [Rip, ru_i (by decide)]; rfl, by rw [Rpp, if_neg (fun z => hA.2.1 s (by rw [← z.2.2]; exact hs')), ru_p]; rfl⟩) (fun _ _ => rfl) (fun b _ => ⟨⟨by show w_p (ws_p _ _ _ _ _) 14 b 16 = _; rw [Rpp, if_neg (fun z => absurd z.2.1 (by decide)), ru_p]; rfl, by show w_i (ws_p _ _ _ _ _) 14 b 10 = _; rw [Rip, ru_i (by decide)]; rfl⟩, fun _ _ _ _ _ _ => rfl⟩)
    have e0 : w_i (ws_p (ru (ws_i (ws_i S.w 15 A 5 (V.1 q 8)) 15 A 5 0) (f2T S.t 5 (fnd S.t kr (i_ cn)) (V.2.2.1 27 m))) 15 A 15 ((f2v S.t 5 (fnd S.t kr (i_ cn))).bind S.ys)) 15 A 5 = 0 := by
      rw [Rip, ru_i (by decide), Rii, if_pos ⟨rfl, rfl, rfl⟩]
    have e15 : w_p (ws_p (ru (ws_i (ws_i S.w 15 A 5 (V.1 q 8)) 15 A 5 0) (f2T S.t 5 (fnd S.t kr (i_ cn)) (V.2.2.1 27 m))) 15 A 15 ((f2v S.t 5 (fnd S.t kr (i_ cn))).bind S.ys)) 15 A 15 = (f2v S.t 5 (fnd S.t kr (i_ cn))).bind S.ys := by
      rw [Rpp, if_pos ⟨rfl, rfl, rfl⟩]
    have kk2 := kk _ H4 hA4 ((hx1.tr hx2 (.inl rfl)).tr hx3 (.inl rfl)) KFr.rf.i.i.ru.pf
    refine PS_l (fun Q a => fun _ => a) (kk2 (.inr ⟨e0, ?_⟩))
    have e15' := e15
    clear kk kk2 e0 e15 H3 H4 hA3 hA4 hx3
    show (w_p (ws_p (ru (ws_i (ws_i S.w 15 A 5 (V.1 q 8)) 15 A 5 0) (f2T S.t 5 (fnd S.t kr (i_ cn)) (V.2.2.1 27 m))) 15 A 15 ((f2v S.t 5 (fnd S.t kr (i_ cn))).bind S.ys)) 15 A 15 = none ∧ _) ∨ ∃ sp P : Nat, w_p (ws_p (ru (ws_i (ws_i S.w 15 A 5 (V.1 q 8)) 15 A 5 0) (f2T S.t 5 (fnd S.t kr (i_ cn)) (V.2.2.1 27 m))) 15 A 15 ((f2v S.t 5 (fnd S.t kr (i_ cn))).bind S.ys)) 15 A 15 = some P ∧ _
    rw [e15']
    clear e15'
    generalize fnd S.t kr (i_ cn) = rr at hfy ⊢
    cases e : f2v S.t 5 rr with
    | none => exact .inl ⟨rfl, rfl⟩
    | some s =>
      have ⟨s', h1, h2⟩ : ∃ s', rr = some s' ∧ w_a S.t 12 0 46 s' = i_ 5 ∧ s' = s := by
        unfold f2v at e
        cases rr with
        | none => cases e
        | some s' =>
          simp only [Option.bind_some] at e
          split at e
          · injection e with e
            exact ⟨s', rfl, by assumption, e⟩
          · cases e
      obtain ⟨h2, h3⟩ := h2
      subst h3
      have h4 := hfy s' h1
      cases ea : S.ys s' with
      | none => exact absurd ea h4
      | some P => exact .inr ⟨s', P, ea, ea, rfl, (H.1.sy ea).choose_spec.2.2.2.2, h2⟩
end AGN
