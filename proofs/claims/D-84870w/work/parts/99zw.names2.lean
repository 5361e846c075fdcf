/-! ===== ROUNDS, part 4: the round of names: what holds all through ===== -/
/-- both states; all symbols of MeetingHouse, how many are in use; symbols that are done, by the twin's number, how many it has; names that are known (MeetingHouse's, the twin's); unit, units, places where something began (number, serial); nodes that were gone to, links that were gone, nodes that are done -/
abbrev nS : Type := wS × wS × (List Nat × Nat) × ((Nat → Option Nat) × Nat) × (List Nat × List Nat) × (Nat × Nat × List (Nat × Int)) × (List Nat × (Nat → Nat → Prop) × (Nat → Prop))
abbrev nS.w (S : nS) : wS := S.1
abbrev nS.t (S : nS) : wS := S.2.1
abbrev nS.al (S : nS) : List Nat := S.2.2.1.1
abbrev nS.am (S : nS) : Nat := S.2.2.1.2
abbrev nS.ys (S : nS) : Nat → Option Nat := S.2.2.2.1.1
abbrev nS.sn (S : nS) : Nat := S.2.2.2.1.2
abbrev nS.kc (S : nS) : List Nat := S.2.2.2.2.1.1
abbrev nS.kt (S : nS) : List Nat := S.2.2.2.2.1.2
abbrev nS.u (S : nS) : Nat := S.2.2.2.2.2.1.1
abbrev nS.un (S : nS) : Nat := S.2.2.2.2.2.1.2.1
abbrev nS.ck (S : nS) : List (Nat × Int) := S.2.2.2.2.2.1.2.2
abbrev nS.vs (S : nS) : List Nat := S.2.2.2.2.2.2.1
abbrev nS.tl (S : nS) : Nat → Nat → Prop := S.2.2.2.2.2.2.2.1
abbrev nS.dn (S : nS) : Nat → Prop := S.2.2.2.2.2.2.2.2
/-- other heaps; other ghosts -/
def nS.wt (S : nS) (w t : wS) : nS := (w, t, S.2.2)
def nS.go (S : nS) (p j : Nat) : nS := (S.1, S.2.1, S.2.2.1, S.2.2.2.1, S.2.2.2.2.1, S.2.2.2.2.2.1, S.vs, (fun a i => S.tl a i ∨ (a = p ∧ i = j)), S.dn)
def nS.at (S : nS) (p : Nat) : nS := (S.1, S.2.1, S.2.2.1, S.2.2.2.1, S.2.2.2.2.1, S.2.2.2.2.2.1, p :: S.vs, S.tl, S.dn)
def nS.fi (S : nS) (p : Nat) : nS := (S.1, S.2.1, S.2.2.1, S.2.2.2.1, S.2.2.2.2.1, S.2.2.2.2.2.1, S.vs, S.tl, fun a => S.dn a ∨ a = p)
/-- fixed: constants, names, the tree -/
def STR (D : pD) (V : pV) (nu : pN) (tn : Nat → Prop) (rt : Nat) : Prop := (zA D.1 ∧ NDD D) ∧ (∀ a n r d, nu a = some (n, r, d) → n = 99999 ∨ (tn n ∧ n < 14000 ∧ LF D V tn tn nu r d a n)) ∧ (∀ n, tn n → n < 14000) ∧ INJ nu ∧ (∀ a a' j j' p, nu a ≠ none → nu a' ≠ none → (3 ≤ j ∧ j ≤ 7) → (3 ≤ j' ∧ j' ≤ 7) → V.2.1 a j = some p → V.2.1 a' j' = some p → KDN nu p ∨ (a' = a ∧ j' = j)) ∧ (∀ a j, nu a ≠ none → (3 ≤ j ∧ j ≤ 7) → V.2.1 a j ≠ some rt) ∧ ∀ l : List Nat, l.Nodup → (∀ a ∈ l, nu a ≠ none) → l.length ≤ 5500
/-- rows of the twin: by nodes, by symbols and units -/
def tl14 (k : Nat) : Bool := (Nat.ble 26 k && Nat.ble k 34) || (Nat.beq k 41 || (Nat.beq k 42 || (Nat.beq k 63 || (Nat.beq k 66 || Nat.beq k 67))))
def tl61 (k : Nat) : Bool := (Nat.ble 45 k && Nat.ble k 55) || (Nat.beq k 57 || (Nat.beq k 60 || (Nat.beq k 61 || (Nat.beq k 68 || (Nat.beq k 71 || Nat.beq k 95)))))
def tlr (k : Nat) : Bool := (Nat.ble 26 k && Nat.ble k 30) || ((Nat.ble 32 k && Nat.ble k 34) || (Nat.beq k 41 || Nat.beq k 42))
def TLN (t : wS) : Prop := (∀ k, tl14 k = true → w_n t 12 0 k = 14000) ∧ ∀ k, tl61 k = true → w_n t 12 0 k = 6100
/-- what names may change in the twin -/
def KNn : List Nat := [31, 44, 45, 46, 47, 48, 49, 50, 51, 52, 53, 54, 55, 56, 57, 58, 59, 60, 61, 62, 63, 64, 65, 66, 67, 68, 71, 95]
def FTn (t t' : wS) : Prop := frm (pk 12 KNn) t t'
/-- nodes whose number changes -/
def n10 (D : pD) (x : Option Nat) : Prop := x = some (D.1.1.1 43) ∨ x = some (D.1.1.1 44) ∨ x = some (D.1.1.1 33) ∨ x = some (D.1.1.1 11)
def TRCn (D : pD) (V : pV) (nu : pN) (w : wS) : Prop := ∀ a, nu a ≠ none → w_l w D.1.2.1 14 a ∧ (∀ k, k ≠ 16 → w_p w 14 a k = V.2.1 a k) ∧ (∀ k, k ≠ 10 → w_i w 14 a k = V.1 a k) ∧ (n10 D (V.2.1 a 0) ∨ w_i w 14 a 10 = V.1 a 10)
def TRTn (V : pV) (tn : Nat → Prop) (t : wS) : Prop := TLN t ∧ ∀ n, tn n → ∀ k, tlr k = true → w_a t 12 0 k n = V.2.2.1 k n
/-- what MeetingHouse says a symbol is, by the twin's kind -/
def wc : Nat → Nat
  | 1 => 54
  | 2 => 55
  | 3 => 53
  | 4 => 58
  | 5 => 57
  | 6 => 59
  | 7 => 60
  | 8 => 56
  | _ => 55
def RPR (w t : wS) (ys : Nat → Option Nat) (s A : Nat) : Prop := ∃ sp P : Nat, w_p w 15 A 15 = some P ∧ ys sp = some P ∧ w_a t 12 0 47 s = i_ (16 + sp : Nat) ∧ sp < 6100 ∧ w_a t 12 0 46 sp = i_ 5
def RTY (w t : wS) (ys : Nat → Option Nat) (s A c : Nat) : Prop := ((c = 1 ∨ c = 2 ∨ c = 3 ∨ c = 8 ∨ c = 9) ∧ ∃ y : Nat, y < 3 ∧ w_i w 15 A 5 = i_ (y + 1 : Nat) ∧ w_p w 15 A 15 = none ∧ w_a t 12 0 47 s = i_ y) ∨ (c = 3 ∧ w_i w 15 A 5 = 0 ∧ ((w_p w 15 A 15 = none ∧ w_a t 12 0 47 s = i_ (-1)) ∨ RPR w t ys s A)) ∨ (c = 4 ∧ w_i w 15 A 5 = i_ (-1) ∧ w_p w 15 A 15 = none ∧ w_a t 12 0 47 s = i_ 0) ∨ ((c = 5 ∨ c = 7) ∧ w_p w 15 A 15 = none ∧ w_a t 12 0 47 s = i_ (-1)) ∨ (c = 6 ∧ RPR w t ys s A)
def RAR (w t : wS) (s A c : Nat) : Prop := (c ≠ 6 ∧ ∃ o : Bool, w_i w 15 A 9 = bI o ∧ w_a t 12 0 48 s = i_ (if o then -2 else -1) ∧ (4 ≤ c → o = false)) ∨ (c = 6 ∧ w_i w 15 A 9 = 0 ∧ ∃ j : Nat, j < 6100 ∧ w_i w 15 A 8 = i_ j ∧ w_a t 12 0 48 s = i_ j)
/-- where it is declared -/
def RN0 (w t : wS) (s A : Nat) : Prop := w_i w 15 A 11 = 0 ∧ w_i w 15 A 14 = 0 ∧ w_a t 12 0 53 s = 0 ∧ w_a t 12 0 54 s = i_ (-1)
def RNk (V : pV) (w t : wS) (s A c nd d kd : Nat) : Prop :=
  (kd = 30 ∧ c = 1 ∧ RN0 w t s A ∧ (w_i w 15 A 9 = 0 ↔ V.2.1 d 3 = none)) ∨
  (kd = 31 ∧ c = 3 ∧ RN0 w t s A ∧ (w_i w 15 A 9 = 0 ↔ V.2.1 d 3 = none)) ∨
  (kd = 32 ∧ c = 4 ∧ RN0 w t s A) ∨
  (kd = 33 ∧ c = 2 ∧ RN0 w t s A ∧ w_i w 15 A 9 = V.1 d 13 ∧ w_a t 12 0 55 s = V.2.2.1 28 nd ∧ w_p w 15 A 19 = some d) ∨
  (kd = 34 ∧ (c = 1 ∨ c = 3) ∧ w_i w 15 A 9 = V.1 d 13 ∧ (w_i w 15 A 11 = 0 ∧ w_i w 15 A 14 = 1 ∧ w_a t 12 0 53 s = 0) ∧ w_a t 12 0 54 s = V.2.2.1 28 nd ∧ w_p w 15 A 18 = V.2.1 d 3) ∨
  (kd = 35 ∧ c = 5 ∧ RN0 w t s A ∧ w_i w 15 A 16 = 0 ∧ w_p w 15 A 17 = V.2.1 d 4) ∨
  (kd = 36 ∧ c = 5 ∧ RN0 w t s A ∧ w_i w 15 A 16 = 1) ∨
  (kd = 41 ∧ c = 6 ∧ RN0 w t s A ∧ w_p w 15 A 17 = V.2.1 d 4) ∨
  (kd = 37 ∧ c = 7 ∧ RN0 w t s A ∧ w_p w 15 A 19 = some d) ∨
  (kd = 38 ∧ c = 8 ∧ RN0 w t s A ∧ w_p w 15 A 19 = some d) ∨
  (kd = 20 ∧ c = 9 ∧ RN0 w t s A ∧ w_a t 12 0 55 s = i_ nd) ∨
  (kd = 42 ∧ ((c = 3 ∧ V.1 d 14 = 1) ∨ (c = 2 ∧ V.1 d 14 = 0 ∧ V.1 d 15 = 1) ∨ (c = 1 ∧ V.1 d 14 = 0 ∧ V.1 d 15 = 0)) ∧ w_i w 15 A 9 = V.1 d 13 ∧ w_i w 15 A 12 = V.1 d 15 ∧ (w_i w 15 A 11 = 1 ∧ w_i w 15 A 14 = 0 ∧ w_a t 12 0 53 s = 1 ∧ w_a t 12 0 54 s = i_ (-1)))
def RND (V : pV) (nu : pN) (w t : wS) (s A c : Nat) : Prop := (c = 3 ∧ s < 2 ∧ w_a t 12 0 49 s = i_ (-1) ∧ RN0 w t s A) ∨ ∃ nd d r dd kd : Nat, (w_a t 12 0 49 s = i_ nd ∧ nd < 14000 ∧ nu d = some (nd, r, dd) ∧ V.2.2.1 26 nd = i_ kd) ∧ RNk V w t s A c nd d kd
/-- a symbol on both sides -/
def RS1 (D : pD) (V : pV) (nu : pN) (w t : wS) (ys : Nat → Option Nat) (s A : Nat) : Prop := (s < 6100 ∧ w_l w D.1.2.1 15 A) ∧ nmS D (w_i w 15 A 1) (w_a t 12 0 45 s) ∧ ∃ c : Nat, (1 ≤ c ∧ c ≤ 9) ∧ w_a t 12 0 46 s = i_ c ∧ w_p w 15 A 0 = some (D.1.1.1 (wc c)) ∧ w_i w 15 A 13 = bI (decide (c = 9)) ∧ RTY w t ys s A c ∧ RAR w t s A c ∧ RND V nu w t s A c
/-- no PROC, no FUNCTION -/
def nrt (t : wS) (s : Nat) : Prop := w_a t 12 0 46 s ≠ i_ 7 ∧ w_a t 12 0 46 s ≠ i_ 8
def ser (w : wS) (A : Nat) : Int := (w_i w 15 A 3).toInt
/-- serials and numbers go together; places -/
def SERn (w t : wS) (ys : Nat → Option Nat) (sn am : Nat) (ck : List (Nat × Int)) : Prop := (∃ z : Nat, w_i w 5 0 4 = i_ z ∧ z ≤ am ∧ (∀ s A, ys s = some A → nrt t s → 0 ≤ ser w A ∧ ser w A < z) ∧ ∀ q ∈ ck, q.1 ≤ sn ∧ q.2 ≤ z) ∧ (∀ s A s' A', ys s = some A → ys s' = some A' → nrt t s → nrt t s' → s < s' → ser w A < ser w A') ∧ ∀ q ∈ ck, ∀ s A, ys s = some A → nrt t s → (s < q.1 ↔ ser w A < q.2)
/-- symbols -/
def JNT (D : pD) (V : pV) (nu : pN) (S : nS) : Prop := (∀ s A, S.ys s = some A → (s < S.sn ∧ A ∈ S.al.take S.am) ∧ RS1 D V nu S.w S.t S.ys s A) ∧ (∀ s s' A, S.ys s = some A → S.ys s' = some A → s = s') ∧ SERn S.w S.t S.ys S.sn S.am S.ck
/-- units of the twin: that around, where symbols lie -/
def lyk (t : wS) (s : Nat) : Nat := if w_a t 12 0 46 s = 1 ∨ w_a t 12 0 46 s = 2 ∨ w_a t 12 0 46 s = 3 ∨ w_a t 12 0 46 s = 9 then (if w_a t 12 0 48 s = -1 then 1 else 2) else 0
def uch (t : wS) : Nat → Nat → Nat → Prop
  | 0, u, x => u = x
  | k + 1, u, x => ∃ y : Nat, (y < u ∧ w_a t 12 0 60 u = i_ y) ∧ uch t k y x
def UNI (t : wS) (sn un : Nat) : Prop := (w_a t 12 0 60 0 = -1 ∧ ∀ x, 0 < x → x < un → ∃ y : Nat, y < x ∧ w_a t 12 0 60 x = i_ y) ∧ (∀ x, x < un → ∃ z : Nat, z ≤ 2 * sn ∧ w_a t 12 0 61 x = i_ z ∧ ∀ s, s < sn → w_a t 12 0 51 s = i_ x → ∃ l : Nat, w_a t 12 0 52 s = i_ l ∧ l + lyk t s ≤ z) ∧ (∀ s, s < sn → ∃ x : Nat, x < un ∧ w_a t 12 0 51 s = i_ x) ∧ ∀ s s', s < s' → s' < sn → w_a t 12 0 51 s = w_a t 12 0 51 s' → ∀ l l' : Nat, l < 100000 → l' < 100000 → w_a t 12 0 52 s = i_ l → w_a t 12 0 52 s' = i_ l' → l + lyk t s ≤ l'
/-- what is known -/
def KNO (S : nS) : Prop := (CHN S.w S.ys S.kc (w_p S.w 5 0 3) ∧ ∀ s ∈ S.kc, S.ys s ≠ none) ∧ (w_i S.t 12 0 56 = i_ S.kt.length ∧ KNr S.t S.kt ∧ S.kt.length ≤ S.sn ∧ ∀ s ∈ S.kt, s < S.sn ∧ S.ys s ≠ none ∧ ∃ x k : Nat, w_a S.t 12 0 51 s = i_ x ∧ uch S.t k S.u x)
/-- how far it went -/
def VTI (V : pV) (nu : pN) (rt : Nat) (S : nS) : Prop := (S.vs.Nodup ∧ ∀ a ∈ S.vs, nu a ≠ none ∧ ¬ KDN nu a) ∧ (∀ a j, S.tl a j → a ∈ S.vs) ∧ (∀ q ∈ S.vs, q = rt ∨ ∃ a j, S.tl a j ∧ (3 ≤ j ∧ j ≤ 7) ∧ V.2.1 a j = some q) ∧ ∀ a, S.dn a → a ∈ S.vs
def IVN (D : pD) (V : pV) (nu : pN) (tn : Nat → Prop) (rt : Nat) (S : nS) : Prop := (TRCn D V nu S.w ∧ TRTn V tn S.t) ∧ (SSO D.1 S.w S.al S.am ∧ S.am ≤ 2 + 2 * S.vs.length) ∧ ((w_i S.t 12 0 44 = i_ S.sn ∧ S.sn ≤ 2 + S.vs.length) ∧ (w_i S.t 12 0 59 = i_ S.un ∧ S.un ≤ 1 + S.vs.length) ∧ w_i S.t 12 0 62 = i_ S.u ∧ S.u < S.un) ∧ JNT D V nu S ∧ UNI S.t S.sn S.un ∧ KNO S ∧ (fkk (w_i S.w 2 0 1) ∧ fkk (w_i S.t 12 0 64)) ∧ VTI V nu rt S
/-- a node is as it was -/
def SMN (nu : pN) (S S' : nS) (b : Nat) : Prop := (w_p S'.w 14 b 16 = w_p S.w 14 b 16 ∧ w_i S'.w 14 b 10 = w_i S.w 14 b 10) ∧ ∀ n r d, nu b = some (n, r, d) → ∀ k, (k = 31 ∨ k = 63 ∨ k = 66 ∨ k = 67) → w_a S'.t 12 0 k n = w_a S.t 12 0 k n
/-- symbols and units stay -/
def SMS (S S' : nS) : Prop := (∀ s A, S.ys s = some A → S'.ys s = some A ∧ ∀ k, w_i S'.w 15 A k = w_i S.w 15 A k ∧ (k ≠ 4 → w_p S'.w 15 A k = w_p S.w 15 A k)) ∧ (∀ s, s < S.sn → ∀ k, (45 ≤ k ∧ k ≤ 55) → w_a S'.t 12 0 k s = w_a S.t 12 0 k s) ∧ S.sn ≤ S'.sn ∧ (∀ s, S'.ys s ≠ none → S.ys s ≠ none ∨ S.sn ≤ s) ∧ (S.un ≤ S'.un ∧ ∀ x, x < S.un → w_a S'.t 12 0 60 x = w_a S.t 12 0 60 x ∧ (x ≠ S.u → w_a S'.t 12 0 61 x = w_a S.t 12 0 61 x)) ∧ ∀ q ∈ S.ck, q ∈ S'.ck
/-- the same, but that a symbol of the twin may have become one that is done -/
def SMW (S S' : nS) : Prop := (∀ s A, S.ys s = some A → S'.ys s = some A ∧ ∀ k, w_i S'.w 15 A k = w_i S.w 15 A k ∧ (k ≠ 4 → w_p S'.w 15 A k = w_p S.w 15 A k)) ∧ (∀ s, s < S.sn → ∀ k, (45 ≤ k ∧ k ≤ 55) → w_a S'.t 12 0 k s = w_a S.t 12 0 k s) ∧ S.sn ≤ S'.sn ∧ True ∧ (S.un ≤ S'.un ∧ ∀ x, x < S.un → w_a S'.t 12 0 60 x = w_a S.t 12 0 60 x ∧ (x ≠ S.u → w_a S'.t 12 0 61 x = w_a S.t 12 0 61 x)) ∧ ∀ q ∈ S.ck, q ∈ S'.ck
/-- since S0 -/
def HN (nu : pN) (S0 S : nS) : Prop := (FN S0.w S.w ∧ FTn S0.t S.t) ∧ SMS S0 S ∧ (∀ b ∈ S0.vs, SMN nu S0 S b ∧ (∀ j, S.tl b j → S0.tl b j) ∧ (S.dn b → S0.dn b)) ∧ (∀ b ∈ S0.vs, b ∈ S.vs) ∧ (∀ a j, S0.tl a j → S.tl a j) ∧ (∀ a, S0.dn a → S.dn a) ∧ (S0.am ≤ S.am ∧ ∀ a ∈ S0.al.take S0.am, a ∈ S.al.take S.am) ∧ (S.u = S0.u ∨ S0.un ≤ S.u)
/-- nothing was declared -/
def NDC (S0 S : nS) : Prop := S.2.2.1 = S0.2.2.1 ∧ S.2.2.2.1 = S0.2.2.2.1 ∧ S.2.2.2.2.1 = S0.2.2.2.2.1 ∧ S.2.2.2.2.2.1 = S0.2.2.2.2.2.1
/-- at a node: links that it went, faults that were told (MeetingHouse's, the twin's), what the node may still make (the twin's symbol or unit, two symbols of MeetingHouse) -/
def HM (D : pD) (V : pV) (nu : pN) (tn : Nat → Prop) (rt p : Nat) (J : List Nat) (cr : Nat) (S0 S : nS) (T T' : Int) : Prop := IVN D V nu tn rt S ∧ HN nu S0 S ∧ (p ∈ S.vs ∧ p ∉ S0.vs ∧ ¬ S.dn p ∧ ∀ j, S.tl p j → j ∈ J) ∧ ((S.sn + S0.vs.length + cr % 2 ≤ S0.sn + S.vs.length ∧ S0.sn ≤ 2 + S0.vs.length) ∧ (S.am + 2 * S0.vs.length + cr / 2 ≤ S0.am + 2 * S.vs.length ∧ S0.am ≤ 2 + 2 * S0.vs.length) ∧ S.un + S0.vs.length + cr % 2 ≤ S0.un + S.vs.length ∧ S0.un ≤ 1 + S0.vs.length) ∧ (FTK T ∧ FTK T') ∧ fcc S.w = min (fcc S0.w) T ∧ fct S.t = min (fct S0.t) T'
/-- a node may be gone to -/
def VOK (V : pV) (nu : pN) (rt : Nat) (S : nS) (p : Nat) : Prop := (p ∉ S.vs ∧ nu p ≠ none ∧ ¬ KDN nu p) ∧ (∀ j, ¬ S.tl p j) ∧ (p = rt ∨ ∃ a j, S.tl a j ∧ (3 ≤ j ∧ j ≤ 7) ∧ V.2.1 a j = some p)
/-- what a method over a node brings: in any case, if nothing was told -/
def NPO (D : pD) (V : pV) (nu : pN) (tn : Nat → Prop) (rt p : Nat) (S : nS) (A G : nS → Prop) (r : kx_Rs) (w' : wS) (r' : kx_Rs) (t' : wS) : Prop := ∃ (S' : nS) (T : Int), (r = .inl none ∧ r' = .inl none ∧ S'.w = w' ∧ S'.t = t') ∧ IVN D V nu tn rt S' ∧ HN nu S S' ∧ (p ∈ S'.vs ∧ S'.dn p ∧ ¬ S'.tl p 7 ∧ S'.u = S.u) ∧ (S'.sn + S.vs.length ≤ S.sn + S'.vs.length ∧ S'.am + 2 * S.vs.length ≤ S.am + 2 * S'.vs.length ∧ S'.un + S.vs.length ≤ S.un + S'.vs.length) ∧ (FTK T ∧ fcc S'.w = min (fcc S.w) T ∧ fct S'.t = min (fct S.t) T) ∧ A S' ∧ (T = NOF → G S')
/-! kinds of nodes in the tree (what the parser is still to tell; how deep the tree is, ranks tell) -/
def nxi (V : pV) : Nat → Option Nat → Option Nat
  | 0, x => x
  | i + 1, x => (nxi V i x).bind (fun q => V.2.1 q 7)
/-- the class of what a node refers to (its number, its flag) -/
def ccl (nb fl : Int32) (kd j : Nat) : Nat :=
  if kd = 1 then (if j = 3 then 3 else 2)
  else if kd = 4 ∨ kd = 6 ∨ kd = 8 then (if j = 3 then 60 else 0)
  else if kd = 5 then 60
  else if kd = 7 then (if j = 3 then 60 else 19)
  else if kd = 10 ∨ kd = 11 then (if j = 3 then 20 else 1)
  else if kd = 17 then (if j = 3 then 20 else 18)
  else if kd = 12 then 13
  else if kd = 13 ∨ kd = 15 ∨ kd = 16 then (if j = 3 then 0 else 1)
  else if kd = 14 then (if j = 3 then 0 else 15)
  else if kd = 18 then (if j = 3 then 60 else if j = 5 then 0 else if j = 6 then 1 else if nb = 1 then 60 else if nb = 3 then 19 else 0)
  else if kd = 19 then (if j = 4 then 60 else 1)
  else if kd = 30 ∨ kd = 31 ∨ kd = 32 then (if j = 3 then 0 else 39)
  else if kd = 34 then 60
  else if kd = 35 ∨ kd = 41 then 40
  else if kd = 36 then 41
  else if kd = 37 then (if j = 3 then 42 else 1)
  else if kd = 38 then (if j = 3 then 42 else if j = 5 then 3 else if j = 6 then 0 else if fl = 1 then 0 else 1)
  else 0
/-- lists -/
def isl (nb : Int32) (kd j : Nat) : Prop := (j = 4 ∧ (kd = 61 ∨ kd = 4 ∨ kd = 5 ∨ kd = 7 ∨ kd = 8 ∨ kd = 9 ∨ kd = 10 ∨ kd = 11 ∨ kd = 17 ∨ kd = 12 ∨ kd = 14 ∨ kd = 19 ∨ kd = 30 ∨ kd = 31 ∨ kd = 32 ∨ kd = 35 ∨ kd = 36 ∨ kd = 41 ∨ (kd = 18 ∧ nb ≠ 2))) ∨ (j = 3 ∧ (kd = 59 ∨ kd = 64 ∨ kd = 4 ∨ kd = 15 ∨ kd = 1 ∨ kd = 37 ∨ kd = 38)) ∨ (j = 5 ∧ kd = 38)
/-- what an expression refers to -/
def chl (kd j : Nat) : Prop := (j = 3 ∧ (kd = 57 ∨ kd = 59 ∨ kd = 60 ∨ kd = 62 ∨ kd = 63 ∨ kd = 64)) ∨ (j = 4 ∧ (kd = 61 ∨ kd = 63))
/-- which fields of a node are told (its number, its flag) -/
def ujk (nb fl : Int32) (kd j : Nat) : Prop := (50 ≤ kd → chl kd j) ∧ (kd < 50 → (j = 3 ∧ (kd = 1 ∨ (4 ≤ kd ∧ kd ≤ 8) ∨ (10 ≤ kd ∧ kd ≤ 18) ∨ kd = 20 ∨ (30 ≤ kd ∧ kd ≤ 34) ∨ kd = 37 ∨ kd = 38 ∨ kd = 40)) ∨ (j = 4 ∧ (kd = 1 ∨ (4 ≤ kd ∧ kd ≤ 20) ∨ (30 ≤ kd ∧ kd ≤ 32) ∨ (35 ≤ kd ∧ kd ≤ 38) ∨ kd = 41)) ∨ (j = 5 ∧ (kd = 18 ∨ kd = 38)) ∨ (j = 6 ∧ (kd = 18 ∨ kd = 19 ∨ kd = 38))) ∧ (kd = 18 ∧ j = 4 → nb ≠ 0) ∧ (kd = 38 ∧ j = 6 → fl ≠ 1)
theorem ujk.c {nb fl : Int32} {kd j : Nat} (h : (kd < 50 ∧ ((j = 3 ∧ (kd = 1 ∨ (4 ≤ kd ∧ kd ≤ 8) ∨ (10 ≤ kd ∧ kd ≤ 18) ∨ kd = 20 ∨ (30 ≤ kd ∧ kd ≤ 34) ∨ kd = 37 ∨ kd = 38 ∨ kd = 40)) ∨ (j = 4 ∧ (kd = 1 ∨ (4 ≤ kd ∧ kd ≤ 20) ∨ (30 ≤ kd ∧ kd ≤ 32) ∨ (35 ≤ kd ∧ kd ≤ 38) ∨ kd = 41)) ∨ (j = 5 ∧ (kd = 18 ∨ kd = 38)) ∨ (j = 6 ∧ (kd = 18 ∨ kd = 19 ∨ kd = 38)))) ∧ ¬ (kd = 18 ∧ j = 4) ∧ ¬ (kd = 38 ∧ j = 6)) : ujk nb fl kd j := ⟨fun e => by omega, fun _ => h.1.2, fun e => absurd e h.2.1, fun e => absurd e h.2.2⟩
theorem ujk.e {nb fl : Int32} {kd j : Nat} (h : chl kd j) (h2 : 50 ≤ kd) : ujk nb fl kd j := ⟨fun _ => h, fun e => by omega, fun e => by omega, fun e => by omega⟩
theorem ujk.g {nb fl : Int32} {j : Nat} (h : 3 ≤ j ∧ j ≤ 6) (h2 : j = 4 → nb ≠ 0) : ujk nb fl 18 j := ⟨fun e => by omega, fun _ => by omega, fun e => h2 e.2, fun e => by omega⟩
theorem ujk.f {nb fl : Int32} (h : fl ≠ 1) : ujk nb fl 38 6 := ⟨fun e => by omega, fun _ => by omega, fun e => by omega, fun _ => h⟩
/-- what else the parser leaves: the condition of a choice stands alone, brackets stand around expressions, an IF has no condition of its own, TIMERs have no type -/
def kxe (V : pV) (p kd : Nat) : Prop := (kd = 13 → ∀ q, V.2.1 p 3 = some q → V.2.1 q 7 = none) ∧ (kd < 50 → V.1 p 12 = 0) ∧ (kd = 12 → V.2.1 p 3 = none) ∧ (kd = 32 → V.1 p 8 = i_ (-1))
/-- a tree of a class -/
def KX (V : pV) (nu : pN) : Nat → Nat → Nat → Prop
  | 0, _, _ => False
  | f + 1, cl, p => ∃ n r d kd : Nat, nu p = some (n, r, d) ∧ n < 14000 ∧ V.2.2.1 26 n = i_ kd ∧ cok cl kd ∧ kxe V p kd ∧ ∀ j, (3 ≤ j ∧ j ≤ 6) → ¬ (j = 5 ∧ (kd = 30 ∨ kd = 31 ∨ kd = 34 ∨ kd = 42)) → ujk (V.1 p 10) (V.1 p 11) kd j → ∀ i q, (i = 0 ∨ isl (V.1 p 10) kd j) → nxi V i (V.2.1 p j) = some q → KX V nu f (ccl (V.1 p 10) (V.1 p 11) kd j) q
