/-! ===== the component: blocks, shape, the judgement AWC (printed by gen_c.py) ===== -/
/-- the shape: how many worlds, targets, plans; the steps of each plan -/
abbrev Cn : Type := Nat × Nat × Nat × (Nat → Nat) × Nat
abbrev cW (c : Cn) : Nat := c.1
abbrev cT (c : Cn) : Nat := c.2.1
abbrev cP (c : Cn) : Nat := c.2.2.1
abbrev cS (c : Cn) : Nat → Nat := c.2.2.2.1
/-- whether there is a look beside the plans' own (block 28) -/
abbrev cX (c : Cn) : Nat := c.2.2.2.2
/-- the fixed blocks -/
def kF (b : Nat) : Kd := match b with
  | 0 => some (.inl 0)
  | 1 => some (.inl 1)
  | 2 => some (.inl 2)
  | 3 => some (.inl 7)
  | 4 => some (.inl 4)
  | 5 => some (.inl 5)
  | 6 => some (.inl 6)
  | 7 => some (.inr (3, 6))
  | 8 => some (.inr (4, 8))
  | 9 => some (.inr (5, 5))
  | 10 => some (.inr (6, 3))
  | 11 => some (.inr (8, 6))
  | 12 => some (.inr (1, 160))
  | 13 => some (.inr (0, 4))
  | 14 => some (.inr (0, 8))
  | 15 => some (.inr (0, 5))
  | 16 => some (.inr (0, 5))
  | 17 => some (.inr (0, 5))
  | 18 => some (.inr (0, 5))
  | 19 => some (.inr (2, 5))
  | 20 => some (.inr (0, 12))
  | 21 => some (.inr (0, 3))
  | 22 => some (.inr (0, 3))
  | 23 => some (.inr (0, 3))
  | 24 => some (.inr (0, 3))
  | 25 => some (.inr (0, 3))
  | 26 => some (.inr (0, 3))
  | _ => none
/-- a block's kind -/
def kB (c : Cn) (b : Nat) : Kd := if b < 27 then kF b else if b = 28 then (if 0 < cX c then some (.inl 13) else none) else if 30 ≤ b ∧ b < 40 then (if b < 32 + cW c then some (.inl 8) else none) else if 40 ≤ b ∧ b < 50 then (if b < 42 + cW c then some (.inr (1, 12)) else none) else if 50 ≤ b ∧ b < 60 then (if b < 50 + cT c then some (.inl 10) else none) else if 60 ≤ b ∧ (b - 60) / 8 < cP c then (if (b - 60) % 8 = 0 then some (.inl 11) else if (b - 60) % 8 = 1 then some (.inr (7, 3)) else if (b - 60) % 8 = 2 then some (.inr (0, 200)) else if (b - 60) % 8 - 3 < cS c ((b - 60) / 8) then some (.inl (if (b - 60) % 8 = 3 then 13 else 14)) else none) else none
/-- a block's references -/
def rF (b k : Nat) : Option Nat := match b, k with
  | 0, 5 => some 7
  | 0, 7 => some 8
  | 0, 9 => some 9
  | 0, 11 => some 12
  | 0, 13 => some 1
  | 0, 16 => some 2
  | 0, 18 => some 10
  | 0, 19 => some 3
  | 0, 23 => some 13
  | 0, 24 => some 14
  | 1, 3 => some 0
  | 2, 0 => some 15
  | 2, 1 => some 16
  | 2, 4 => some 11
  | 2, 6 => some 0
  | 3, 0 => some 17
  | 3, 1 => some 18
  | 3, 2 => some 19
  | 3, 3 => some 20
  | 3, 9 => some 0
  | 10, 0 => some 4
  | 10, 1 => some 5
  | 10, 2 => some 6
  | 11, 0 => some 21
  | 11, 1 => some 22
  | 11, 2 => some 23
  | 11, 3 => some 24
  | 11, 4 => some 25
  | 11, 5 => some 26
  | _, _ => none
def rB (c : Cn) (b k : Nat) : Option Nat := if b = 7 then (if k < 2 + cW c then some (30 + k) else none) else if b = 8 then (if k < cT c then some (50 + k) else none) else if b = 9 then (if k < cP c then some (60 + 8 * k) else none) else if b < 27 then rF b k else if 30 ≤ b ∧ b < 40 then (if k = 0 then some (b + 10) else none) else if 50 ≤ b ∧ b < 60 then (if k = 3 then some 0 else none) else if 60 ≤ b ∧ (b - 60) % 8 = 0 then (if k = 4 then some (b + 1) else if k = 6 then some (b + 2) else if k = 8 then some 0 else none) else if 60 ≤ b ∧ (b - 60) % 8 = 1 then (if k < cS c ((b - 60) / 8) then some (b + 2 + k) else none) else none
theorem kB_sky {c : Cn} {i : Nat} (h : i < 2 + cW c) (h6 : i < 10) : kB c (30 + i) = some (.inl 8) := by
  unfold kB
  rw [if_neg (by omega), if_neg (by omega), if_pos (by omega), if_pos (by omega)]
theorem kB_see {c : Cn} {i : Nat} (h : i < 2 + cW c) (h6 : i < 10) : kB c (40 + i) = some (.inr (1, 12)) := by
  unfold kB
  rw [if_neg (by omega), if_neg (by omega), if_neg (by omega), if_pos (by omega), if_pos (by omega)]
theorem kB_tgt {c : Cn} {i : Nat} (h : i < cT c) (h8 : i < 10) : kB c (50 + i) = some (.inl 10) := by
  unfold kB
  rw [if_neg (by omega), if_neg (by omega), if_neg (by omega), if_neg (by omega), if_pos (by omega), if_pos (by omega)]
theorem kB_p {c : Cn} {p : Nat} (r : Nat) (h : p < cP c) (hr : r < 8) : kB c (60 + 8 * p + r) = if r = 0 then some (.inl 11) else if r = 1 then some (.inr (7, 3)) else if r = 2 then some (.inr (0, 200)) else if r - 3 < cS c p then some (.inl (if r = 3 then 13 else 14)) else none := by
  have e1 : (60 + 8 * p + r - 60) / 8 = p := by omega
  have e2 : (60 + 8 * p + r - 60) % 8 = r := by omega
  unfold kB
  rw [e1, e2, if_neg (by omega), if_neg (by omega), if_neg (by omega), if_neg (by omega), if_neg (by omega), if_pos (by omega)]
theorem kB_plan {c : Cn} {p : Nat} (h : p < cP c) : kB c (60 + 8 * p) = some (.inl 11) := kB_p 0 h (by decide)
theorem kB_steps {c : Cn} {p : Nat} (h : p < cP c) : kB c (61 + 8 * p) = some (.inr (7, 3)) := by
  have := kB_p (c := c) (p := p) 1 h (by decide)
  rw [show 60 + 8 * p + 1 = 61 + 8 * p by omega] at this
  exact this
theorem kB_places {c : Cn} {p : Nat} (h : p < cP c) : kB c (62 + 8 * p) = some (.inr (0, 200)) := by
  have := kB_p (c := c) (p := p) 2 h (by decide)
  rw [show 60 + 8 * p + 2 = 62 + 8 * p by omega] at this
  exact this
theorem kB_look {c : Cn} {p j : Nat} (h : p < cP c) (hj : j < cS c p) (h3 : j < 3) : kB c (63 + 8 * p + j) = some (.inl (if j = 0 then 13 else 14)) := by
  have := kB_p (c := c) (p := p) (3 + j) h (by omega)
  rw [show 60 + 8 * p + (3 + j) = 63 + 8 * p + j by omega, if_neg (by omega), if_neg (by omega), if_neg (by omega), if_pos (by omega)] at this
  rw [this]
  by_cases h0 : j = 0
  · rw [if_pos (by omega), if_pos h0]
  · rw [if_neg (by omega), if_neg h0]
theorem rB_sky {c : Cn} {i : Nat} (h : i < 2 + cW c) : rB c 7 i = some (30 + i) := by
  unfold rB
  rw [if_pos rfl, if_pos h]
theorem rB_see {c : Cn} {i : Nat} (h : i < 10) : rB c (30 + i) 0 = some (40 + i) := by
  unfold rB
  rw [if_neg (by omega), if_neg (by omega), if_neg (by omega), if_neg (by omega), if_pos (by omega), if_pos rfl]
  congr 1
  omega
theorem rB_tgt {c : Cn} {i : Nat} (h : i < cT c) : rB c 8 i = some (50 + i) := by
  unfold rB
  rw [if_neg (by decide), if_pos rfl, if_pos h]
theorem rB_tgo {c : Cn} {i : Nat} (h : i < 10) : rB c (50 + i) 3 = some 0 := by
  unfold rB
  rw [if_neg (by omega), if_neg (by omega), if_neg (by omega), if_neg (by omega), if_neg (by omega), if_pos (by omega), if_pos rfl]
theorem rB_plan {c : Cn} {p : Nat} (h : p < cP c) : rB c 9 p = some (60 + 8 * p) := by
  unfold rB
  rw [if_neg (by decide), if_neg (by decide), if_pos rfl, if_pos h]
theorem rB_pf {c : Cn} {p : Nat} (k : Nat) : rB c (60 + 8 * p) k = if k = 4 then some (61 + 8 * p) else if k = 6 then some (62 + 8 * p) else if k = 8 then some 0 else none := by
  unfold rB
  rw [if_neg (by omega), if_neg (by omega), if_neg (by omega), if_neg (by omega), if_neg (by omega), if_neg (by omega), if_pos (by omega)]
  rw [show 60 + 8 * p + 1 = 61 + 8 * p by omega, show 60 + 8 * p + 2 = 62 + 8 * p by omega]
theorem rB_look {c : Cn} {p j : Nat} (hj : j < cS c p) : rB c (61 + 8 * p) j = some (63 + 8 * p + j) := by
  unfold rB
  rw [if_neg (by omega), if_neg (by omega), if_neg (by omega), if_neg (by omega), if_neg (by omega), if_neg (by omega), if_neg (by omega), if_pos (by omega), show (61 + 8 * p - 60) / 8 = p by omega, if_pos hj]
  congr 1
  omega
theorem rB_rule {c : Cn} {i : Nat} (h : i < 3) : rB c 10 i = some (4 + i) := by
  match i, h with
  | 0, _ => rfl
  | 1, _ => rfl
  | 2, _ => rfl
theorem rB_used {c : Cn} {i : Nat} (h : i < 6) : rB c 11 i = some (21 + i) := by
  match i, h with
  | 0, _ => rfl
  | 1, _ => rfl
  | 2, _ => rfl
  | 3, _ => rfl
  | 4, _ => rfl
  | 5, _ => rfl
theorem kB_used {c : Cn} {i : Nat} (h : i < 6) : kB c (21 + i) = some (.inr (0, 3)) := by
  match i, h with
  | 0, _ => rfl
  | 1, _ => rfl
  | 2, _ => rfl
  | 3, _ => rfl
  | 4, _ => rfl
  | 5, _ => rfl
/-- the shape stands in the heap -/
def CS (ad : Nat → Nat) (c : Cn) (h : Hp) : Prop := (∀ b kd, kB c b = some kd → xK h (ad b) = some kd) ∧ (∀ b k b', kB c b ≠ none → rB c b k = some b' → xR h (ad b) k = some (ad b')) ∧ (∀ b b', kB c b ≠ none → kB c b' ≠ none → ad b = ad b' → b = b')
/-- what is not the component's stays -/
def OffC (ad : Nat → Nat) (c : Cn) (h0 h : Hp) : Prop := (∀ a, xK h a = xK h0 a) ∧ (∀ a k, ¬ (a = ad 3 ∧ (k = 7 ∨ k = 8)) → xR h a k = xR h0 a k) ∧ (∀ a, (∀ b, kB c b ≠ none → a ≠ ad b) → ∀ j, xI h a j = xI h0 a j) ∧ (∀ a j, xL h a j = xL h0 a j)
/-- the watch's rule and sky, where they are known: told in the block 27, which is no cell -/
def WR (ad : Nat → Nat) (g : Tg) (h : Hp) : Prop := (0 ≤ g 27 0 → xR h (ad 3) 7 = some (ad (4 + (g 27 0).toNatClampNeg))) ∧ (0 ≤ g 27 1 → xR h (ad 3) 8 = some (ad (30 + (g 27 1).toNatClampNeg)))
def CRep (ad : Nat → Nat) (c : Cn) (g : Tg) (h0 h : Hp) : Prop := CS ad c h ∧ (∀ b, kB c b ≠ none → ∀ k, xI h (ad b) k = g b k) ∧ WR ad g h ∧ OffC ad c h0 h
def AWC (G : Gl) (ad : Nat → Nat) (cn : Cn) (h0 : Hp) (M : Mi) (Q : Option Value → Tg → Prop) (g : Tg) (pc : Nat) (lv : List (Nat × Value)) (st : List Value) : Prop :=
  ∀ h, CRep ad cn g h0 h → AW G M (fun oc h' => ∃ v, oc = .returned v ∧ ∃ g', CRep ad cn g' h0 h' ∧ Q v g') (0, 0) h pc lv st
def MCC (G : Gl) (ad : Nat → Nat) (cn : Cn) (M : Mi) (args : List Value) (g : Tg) (Q : Option Value → Tg → Prop) : Prop :=
  ∀ h0 h, CRep ad cn g h0 h → MC G M args h (fun v h' => ∃ g', CRep ad cn g' h0 h' ∧ Q v g')
theorem CRep.put {ad : Nat → Nat} {c : Cn} {g : Tg} {h0 h : Hp} (t : CRep ad c g h0 h) {b : Nat} (hb : kB c b ≠ none) (k : Nat) (v : Int32) : CRep ad c (up2 g b k v) h0 (sI h (ad b) k v) := by
  obtain ⟨t1, t2, t3, t4⟩ := t
  have hb27 : b ≠ 27 := fun z => hb (by rw [z]; rfl)
  refine ⟨t1, fun b' hb' j => ?_, ⟨fun z => t3.1 (by rwa [up2_n _ _ _ _ (Ne.symm hb27)] at z) |>.trans (by rw [up2_n _ _ _ _ (Ne.symm hb27)]), fun z => t3.2 (by rwa [up2_n _ _ _ _ (Ne.symm hb27)] at z) |>.trans (by rw [up2_n _ _ _ _ (Ne.symm hb27)])⟩, t4.1, t4.2.1, fun a ha j => ?_, t4.2.2.2⟩
  · rw [xI_sI]
    by_cases e : b' = b
    · subst e
      unfold up2
      simp [t2 b' hb' j]
    · rw [if_neg (fun z => e (t1.2.2 b' b hb' hb z.1)), up2_n _ _ _ _ e]
      exact t2 b' hb' j
  · rw [xI_sI, if_neg (fun z => ha b hb z.1)]
    exact t4.2.2.1 a ha j
section AWC
variable {G : Gl} {ad : Nat → Nat} {cn : Cn} {h0 : Hp} {M : Mi} {Q : Option Value → Tg → Prop} {g : Tg} {pc : Nat} {lv : List (Nat × Value)} {st : List Value}
theorem MCC.of {args : List Value} (hz : (mR M).cells = 0 ∧ (mR M).slots = 0) (hy : plainName (mY M).cls = true) (hn : (lg_sl args).length ≤ mL M) (hlv : lv_args 0 args = lv) (k : ∀ h0, AWC G ad cn h0 M Q g 0 lv []) : MCC G ad cn M args g Q := by
  intro h0 h hr
  refine MC.of hy hn hlv ?_
  rw [hz.1, hz.2]
  exact k h0 h hr
theorem MCC.mono {args : List Value} {Q1 : Option Value → Tg → Prop} (k : MCC G ad cn M args g Q1) (hQ : ∀ v g', Q1 v g' → Q v g') : MCC G ad cn M args g Q :=
  fun h0 h hr => (k h0 h hr).mono fun v h' ⟨g', h1, h2⟩ => ⟨g', h1, hQ v g' h2⟩
theorem AWC_iconst {n : Int} {v : Int32} (hd : decode (mC M) pc = .ok (.iconst n, 1)) (hv : Int32.ofInt n = v) (k : AWC G ad cn h0 M Q g (pc + 1) lv (.int v :: st)) : AWC G ad cn h0 M Q g pc lv (st) := fun h hr => AW_iconst hd hv (k h hr)
theorem AWC_bipush {n : Int} {v : Int32} (hd : decode (mC M) pc = .ok (.bipush n, 2)) (hv : (Int8.ofInt n).toInt32 = v) (k : AWC G ad cn h0 M Q g (pc + 2) lv (.int v :: st)) : AWC G ad cn h0 M Q g pc lv (st) := fun h hr => AW_bipush hd hv (k h hr)
theorem AWC_sipush {n : Int} {v : Int32} (hd : decode (mC M) pc = .ok (.sipush n, 3)) (hv : (Int16.ofInt n).toInt32 = v) (k : AWC G ad cn h0 M Q g (pc + 3) lv (.int v :: st)) : AWC G ad cn h0 M Q g pc lv (st) := fun h hr => AW_sipush hd hv (k h hr)
theorem AWC_lconst {n : Fin 2} {v : Int64} (hd : decode (mC M) pc = .ok (.lconst n, 1)) (hv : Int64.ofNat (n : Nat) = v) (k : AWC G ad cn h0 M Q g (pc + 1) lv (.long v :: st)) : AWC G ad cn h0 M Q g pc lv (st) := fun h hr => AW_lconst hd hv (k h hr)
theorem AWC_iload_n {k : Fin 4} {i : Nat} {x : Int32} (hd : decode (mC M) pc = .ok (.iload_n k, 1)) (hi : (k : Nat) = i) (q : Nat) (hq : lv[q]? = some (i, .int x)) (k : AWC G ad cn h0 M Q g (pc + 1) lv (.int x :: st)) : AWC G ad cn h0 M Q g pc lv (st) := fun h hr => AW_iload_n hd hi q hq (k h hr)
theorem AWC_iload {i : Nat} {x : Int32} (hd : decode (mC M) pc = .ok (.iload i, 2)) (q : Nat) (hq : lv[q]? = some (i, .int x)) (k : AWC G ad cn h0 M Q g (pc + 2) lv (.int x :: st)) : AWC G ad cn h0 M Q g pc lv (st) := fun h hr => AW_iload hd q hq (k h hr)
theorem AWC_istore_n {k : Fin 4} {i : Nat} {x : Int32} {lv' : List (Nat × Value)} (hd : decode (mC M) pc = .ok (.istore_n k, 1)) (hi : (k : Nat) = i) (hn : i < mL M) (he : (i, Value.int x) :: lv.filter (fun q => !(q.1 == i) && !(q.1 + 1 == i && q.2.category == 2)) = lv') (k : AWC G ad cn h0 M Q g (pc + 1) lv' st) : AWC G ad cn h0 M Q g pc lv (.int x :: st) := fun h hr => AW_istore_n hd hi hn he (k h hr)
theorem AWC_istore {i : Nat} {x : Int32} {lv' : List (Nat × Value)} (hd : decode (mC M) pc = .ok (.istore i, 2)) (hn : i < mL M) (he : (i, Value.int x) :: lv.filter (fun q => !(q.1 == i) && !(q.1 + 1 == i && q.2.category == 2)) = lv') (k : AWC G ad cn h0 M Q g (pc + 2) lv' st) : AWC G ad cn h0 M Q g pc lv (.int x :: st) := fun h hr => AW_istore hd hn he (k h hr)
theorem AWC_lload_n {k : Fin 4} {i : Nat} {x : Int64} (hd : decode (mC M) pc = .ok (.lload_n k, 1)) (hi : (k : Nat) = i) (q : Nat) (hq : lv[q]? = some (i, .long x)) (k : AWC G ad cn h0 M Q g (pc + 1) lv (.long x :: st)) : AWC G ad cn h0 M Q g pc lv (st) := fun h hr => AW_lload_n hd hi q hq (k h hr)
theorem AWC_lload {i : Nat} {x : Int64} (hd : decode (mC M) pc = .ok (.lload i, 2)) (q : Nat) (hq : lv[q]? = some (i, .long x)) (k : AWC G ad cn h0 M Q g (pc + 2) lv (.long x :: st)) : AWC G ad cn h0 M Q g pc lv (st) := fun h hr => AW_lload hd q hq (k h hr)
theorem AWC_lstore_n {k : Fin 4} {i : Nat} {x : Int64} {lv' : List (Nat × Value)} (hd : decode (mC M) pc = .ok (.lstore_n k, 1)) (hi : (k : Nat) = i) (hn : i + 1 < mL M) (he : (i, Value.long x) :: lv.filter (fun q => !(q.1 == i) && (!(q.1 == i + 1) && !(q.1 + 1 == i && q.2.category == 2))) = lv') (k : AWC G ad cn h0 M Q g (pc + 1) lv' st) : AWC G ad cn h0 M Q g pc lv (.long x :: st) := fun h hr => AW_lstore_n hd hi hn he (k h hr)
theorem AWC_lstore {i : Nat} {x : Int64} {lv' : List (Nat × Value)} (hd : decode (mC M) pc = .ok (.lstore i, 2)) (hn : i + 1 < mL M) (he : (i, Value.long x) :: lv.filter (fun q => !(q.1 == i) && (!(q.1 == i + 1) && !(q.1 + 1 == i && q.2.category == 2))) = lv') (k : AWC G ad cn h0 M Q g (pc + 2) lv' st) : AWC G ad cn h0 M Q g pc lv (.long x :: st) := fun h hr => AW_lstore hd hn he (k h hr)
theorem AWC_aload_n {k : Fin 4} {i : Nat} {x : Nat} (hd : decode (mC M) pc = .ok (.aload_n k, 1)) (hi : (k : Nat) = i) (q : Nat) (hq : lv[q]? = some (i, .ref x)) (k : AWC G ad cn h0 M Q g (pc + 1) lv (.ref x :: st)) : AWC G ad cn h0 M Q g pc lv (st) := fun h hr => AW_aload_n hd hi q hq (k h hr)
theorem AWC_aload {i : Nat} {x : Nat} (hd : decode (mC M) pc = .ok (.aload i, 2)) (q : Nat) (hq : lv[q]? = some (i, .ref x)) (k : AWC G ad cn h0 M Q g (pc + 2) lv (.ref x :: st)) : AWC G ad cn h0 M Q g pc lv (st) := fun h hr => AW_aload hd q hq (k h hr)
theorem AWC_astore_n {k : Fin 4} {i : Nat} {x : Nat} {lv' : List (Nat × Value)} (hd : decode (mC M) pc = .ok (.astore_n k, 1)) (hi : (k : Nat) = i) (hn : i < mL M) (he : (i, Value.ref x) :: lv.filter (fun q => !(q.1 == i) && !(q.1 + 1 == i && q.2.category == 2)) = lv') (k : AWC G ad cn h0 M Q g (pc + 1) lv' st) : AWC G ad cn h0 M Q g pc lv (.ref x :: st) := fun h hr => AW_astore_n hd hi hn he (k h hr)
theorem AWC_astore {i : Nat} {x : Nat} {lv' : List (Nat × Value)} (hd : decode (mC M) pc = .ok (.astore i, 2)) (hn : i < mL M) (he : (i, Value.ref x) :: lv.filter (fun q => !(q.1 == i) && !(q.1 + 1 == i && q.2.category == 2)) = lv') (k : AWC G ad cn h0 M Q g (pc + 2) lv' st) : AWC G ad cn h0 M Q g pc lv (.ref x :: st) := fun h hr => AW_astore hd hn he (k h hr)
theorem AWC_iinc {i : Nat} {n : Int} {x v : Int32} {lv' : List (Nat × Value)} (hd : decode (mC M) pc = .ok (.iinc i n, 3)) (q : Nat) (hq : lv[q]? = some (i, .int x)) (hv : x + Int32.ofInt n = v) (hn : i < mL M) (he : (i, Value.int v) :: lv.filter (fun q => !(q.1 == i) && !(q.1 + 1 == i && q.2.category == 2)) = lv') (k : AWC G ad cn h0 M Q g (pc + 3) lv' st) : AWC G ad cn h0 M Q g pc lv st := fun h hr => AW_iinc hd q hq hv hn he (k h hr)
theorem AWC_lv {lv' : List (Nat × Value)} (ks : List Nat) (he : lv_pick lv ks = lv') (k : AWC G ad cn h0 M Q g pc lv' st) : AWC G ad cn h0 M Q g pc lv st := fun h hr => AW_lv ks he (k h hr)
theorem AWC_iadd {x y : Int32} (hd : decode (mC M) pc = .ok (.iadd, 1)) (k : AWC G ad cn h0 M Q g (pc + 1) lv (.int (x + y) :: st)) : AWC G ad cn h0 M Q g pc lv (.int y :: .int x :: st) := fun h hr => AW_iadd hd (k h hr)
theorem AWC_ladd {x y : Int64} (hd : decode (mC M) pc = .ok (.ladd, 1)) (k : AWC G ad cn h0 M Q g (pc + 1) lv (.long (x + y) :: st)) : AWC G ad cn h0 M Q g pc lv (.long y :: .long x :: st) := fun h hr => AW_ladd hd (k h hr)
theorem AWC_isub {x y : Int32} (hd : decode (mC M) pc = .ok (.isub, 1)) (k : AWC G ad cn h0 M Q g (pc + 1) lv (.int (x - y) :: st)) : AWC G ad cn h0 M Q g pc lv (.int y :: .int x :: st) := fun h hr => AW_isub hd (k h hr)
theorem AWC_lsub {x y : Int64} (hd : decode (mC M) pc = .ok (.lsub, 1)) (k : AWC G ad cn h0 M Q g (pc + 1) lv (.long (x - y) :: st)) : AWC G ad cn h0 M Q g pc lv (.long y :: .long x :: st) := fun h hr => AW_lsub hd (k h hr)
theorem AWC_imul {x y : Int32} (hd : decode (mC M) pc = .ok (.imul, 1)) (k : AWC G ad cn h0 M Q g (pc + 1) lv (.int (x * y) :: st)) : AWC G ad cn h0 M Q g pc lv (.int y :: .int x :: st) := fun h hr => AW_imul hd (k h hr)
theorem AWC_lmul {x y : Int64} (hd : decode (mC M) pc = .ok (.lmul, 1)) (k : AWC G ad cn h0 M Q g (pc + 1) lv (.long (x * y) :: st)) : AWC G ad cn h0 M Q g pc lv (.long y :: .long x :: st) := fun h hr => AW_lmul hd (k h hr)
theorem AWC_iand {x y : Int32} (hd : decode (mC M) pc = .ok (.iand, 1)) (k : AWC G ad cn h0 M Q g (pc + 1) lv (.int (x &&& y) :: st)) : AWC G ad cn h0 M Q g pc lv (.int y :: .int x :: st) := fun h hr => AW_iand hd (k h hr)
theorem AWC_land {x y : Int64} (hd : decode (mC M) pc = .ok (.land, 1)) (k : AWC G ad cn h0 M Q g (pc + 1) lv (.long (x &&& y) :: st)) : AWC G ad cn h0 M Q g pc lv (.long y :: .long x :: st) := fun h hr => AW_land hd (k h hr)
theorem AWC_ior {x y : Int32} (hd : decode (mC M) pc = .ok (.ior, 1)) (k : AWC G ad cn h0 M Q g (pc + 1) lv (.int (x ||| y) :: st)) : AWC G ad cn h0 M Q g pc lv (.int y :: .int x :: st) := fun h hr => AW_ior hd (k h hr)
theorem AWC_lor {x y : Int64} (hd : decode (mC M) pc = .ok (.lor, 1)) (k : AWC G ad cn h0 M Q g (pc + 1) lv (.long (x ||| y) :: st)) : AWC G ad cn h0 M Q g pc lv (.long y :: .long x :: st) := fun h hr => AW_lor hd (k h hr)
theorem AWC_ixor {x y : Int32} (hd : decode (mC M) pc = .ok (.ixor, 1)) (k : AWC G ad cn h0 M Q g (pc + 1) lv (.int (x ^^^ y) :: st)) : AWC G ad cn h0 M Q g pc lv (.int y :: .int x :: st) := fun h hr => AW_ixor hd (k h hr)
theorem AWC_lxor {x y : Int64} (hd : decode (mC M) pc = .ok (.lxor, 1)) (k : AWC G ad cn h0 M Q g (pc + 1) lv (.long (x ^^^ y) :: st)) : AWC G ad cn h0 M Q g pc lv (.long y :: .long x :: st) := fun h hr => AW_lxor hd (k h hr)
theorem AWC_idiv {x y : Int32} (hd : decode (mC M) pc = .ok (.idiv, 1)) (hne : ¬ y = 0) (k : AWC G ad cn h0 M Q g (pc + 1) lv (.int (x / y) :: st)) : AWC G ad cn h0 M Q g pc lv (.int y :: .int x :: st) := fun h hr => AW_idiv hd hne (k h hr)
theorem AWC_ldiv {x y : Int64} (hd : decode (mC M) pc = .ok (.ldiv, 1)) (hne : ¬ y = 0) (k : AWC G ad cn h0 M Q g (pc + 1) lv (.long (x / y) :: st)) : AWC G ad cn h0 M Q g pc lv (.long y :: .long x :: st) := fun h hr => AW_ldiv hd hne (k h hr)
theorem AWC_irem {x y : Int32} (hd : decode (mC M) pc = .ok (.irem, 1)) (hne : ¬ y = 0) (k : AWC G ad cn h0 M Q g (pc + 1) lv (.int (x - x / y * y) :: st)) : AWC G ad cn h0 M Q g pc lv (.int y :: .int x :: st) := fun h hr => AW_irem hd hne (k h hr)
theorem AWC_lrem {x y : Int64} (hd : decode (mC M) pc = .ok (.lrem, 1)) (hne : ¬ y = 0) (k : AWC G ad cn h0 M Q g (pc + 1) lv (.long (x - x / y * y) :: st)) : AWC G ad cn h0 M Q g pc lv (.long y :: .long x :: st) := fun h hr => AW_lrem hd hne (k h hr)
theorem AWC_ineg {x : Int32} (hd : decode (mC M) pc = .ok (.ineg, 1)) (k : AWC G ad cn h0 M Q g (pc + 1) lv (.int (-x) :: st)) : AWC G ad cn h0 M Q g pc lv (.int x :: st) := fun h hr => AW_ineg hd (k h hr)
theorem AWC_ishl {x y : Int32} (hd : decode (mC M) pc = .ok (.ishl, 1)) (k : AWC G ad cn h0 M Q g (pc + 1) lv (.int (x <<< (y &&& 31)) :: st)) : AWC G ad cn h0 M Q g pc lv (.int y :: .int x :: st) := fun h hr => AW_ishl hd (k h hr)
theorem AWC_ishr {x y : Int32} (hd : decode (mC M) pc = .ok (.ishr, 1)) (k : AWC G ad cn h0 M Q g (pc + 1) lv (.int (x >>> (y &&& 31)) :: st)) : AWC G ad cn h0 M Q g pc lv (.int y :: .int x :: st) := fun h hr => AW_ishr hd (k h hr)
theorem AWC_lshl {x : Int64} {y : Int32} (hd : decode (mC M) pc = .ok (.lshl, 1)) (k : AWC G ad cn h0 M Q g (pc + 1) lv (.long (x <<< (y.toInt64 &&& 63)) :: st)) : AWC G ad cn h0 M Q g pc lv (.int y :: .long x :: st) := fun h hr => AW_lshl hd (k h hr)
theorem AWC_lshr {x : Int64} {y : Int32} (hd : decode (mC M) pc = .ok (.lshr, 1)) (k : AWC G ad cn h0 M Q g (pc + 1) lv (.long (x >>> (y.toInt64 &&& 63)) :: st)) : AWC G ad cn h0 M Q g pc lv (.int y :: .long x :: st) := fun h hr => AW_lshr hd (k h hr)
theorem AWC_i2l {x : Int32} (hd : decode (mC M) pc = .ok (.i2l, 1)) (k : AWC G ad cn h0 M Q g (pc + 1) lv (.long x.toInt64 :: st)) : AWC G ad cn h0 M Q g pc lv (.int x :: st) := fun h hr => AW_i2l hd (k h hr)
theorem AWC_l2i {x : Int64} (hd : decode (mC M) pc = .ok (.l2i, 1)) (k : AWC G ad cn h0 M Q g (pc + 1) lv (.int x.toInt32 :: st)) : AWC G ad cn h0 M Q g pc lv (.long x :: st) := fun h hr => AW_l2i hd (k h hr)
theorem AWC_i2b {x : Int32} (hd : decode (mC M) pc = .ok (.i2b, 1)) (k : AWC G ad cn h0 M Q g (pc + 1) lv (.int x.toInt8.toInt32 :: st)) : AWC G ad cn h0 M Q g pc lv (.int x :: st) := fun h hr => AW_i2b hd (k h hr)
theorem AWC_lcmp {x y : Int64} (hd : decode (mC M) pc = .ok (.lcmp, 1)) (k : AWC G ad cn h0 M Q g (pc + 1) lv (.int (lg_cmp x y) :: st)) : AWC G ad cn h0 M Q g pc lv (.long y :: .long x :: st) := fun h hr => AW_lcmp hd (k h hr)
theorem AWC_dup {va : Value} (hd : decode (mC M) pc = .ok (.dup, 1)) (hva : va.category = 1) (k : AWC G ad cn h0 M Q g (pc + 1) lv (va :: va :: st)) : AWC G ad cn h0 M Q g pc lv (va :: st) := fun h hr => AW_dup hd hva (k h hr)
theorem AWC_pop {va : Value} (hd : decode (mC M) pc = .ok (.pop, 1)) (hva : va.category = 1) (k : AWC G ad cn h0 M Q g (pc + 1) lv (st)) : AWC G ad cn h0 M Q g pc lv (va :: st) := fun h hr => AW_pop hd hva (k h hr)
theorem AWC_dup2 {va vb : Value} (hd : decode (mC M) pc = .ok (.dup2, 1)) (hva : va.category = 1) (hvb : vb.category = 1) (k : AWC G ad cn h0 M Q g (pc + 1) lv (va :: vb :: va :: vb :: st)) : AWC G ad cn h0 M Q g pc lv (va :: vb :: st) := fun h hr => AW_dup2 hd hva hvb (k h hr)
theorem AWC_icmp_eq {x y : Int32} {off : Int} {tgt : Nat} (hd : decode (mC M) pc = .ok (.if_icmp .eq off, 3)) (ht : (pc : Int) + off = (tgt : Int)) (kt : x = y → AWC G ad cn h0 M Q g tgt lv st) (kf : ¬ x = y → AWC G ad cn h0 M Q g (pc + 3) lv st) : AWC G ad cn h0 M Q g pc lv (.int y :: .int x :: st) := fun h hr => AW_icmp_eq hd ht (fun z => kt z h hr) (fun z => kf z h hr)
theorem AWC_if_eq {x : Int32} {off : Int} {tgt : Nat} (hd : decode (mC M) pc = .ok (.ifCond .eq off, 3)) (ht : (pc : Int) + off = (tgt : Int)) (kt : x = 0 → AWC G ad cn h0 M Q g tgt lv st) (kf : ¬ x = 0 → AWC G ad cn h0 M Q g (pc + 3) lv st) : AWC G ad cn h0 M Q g pc lv (.int x :: st) := fun h hr => AW_if_eq hd ht (fun z => kt z h hr) (fun z => kf z h hr)
theorem AWC_icmp_ne {x y : Int32} {off : Int} {tgt : Nat} (hd : decode (mC M) pc = .ok (.if_icmp .ne off, 3)) (ht : (pc : Int) + off = (tgt : Int)) (kt : ¬ x = y → AWC G ad cn h0 M Q g tgt lv st) (kf : x = y → AWC G ad cn h0 M Q g (pc + 3) lv st) : AWC G ad cn h0 M Q g pc lv (.int y :: .int x :: st) := fun h hr => AW_icmp_ne hd ht (fun z => kt z h hr) (fun z => kf z h hr)
theorem AWC_if_ne {x : Int32} {off : Int} {tgt : Nat} (hd : decode (mC M) pc = .ok (.ifCond .ne off, 3)) (ht : (pc : Int) + off = (tgt : Int)) (kt : ¬ x = 0 → AWC G ad cn h0 M Q g tgt lv st) (kf : x = 0 → AWC G ad cn h0 M Q g (pc + 3) lv st) : AWC G ad cn h0 M Q g pc lv (.int x :: st) := fun h hr => AW_if_ne hd ht (fun z => kt z h hr) (fun z => kf z h hr)
theorem AWC_icmp_lt {x y : Int32} {off : Int} {tgt : Nat} (hd : decode (mC M) pc = .ok (.if_icmp .lt off, 3)) (ht : (pc : Int) + off = (tgt : Int)) (kt : x < y → AWC G ad cn h0 M Q g tgt lv st) (kf : ¬ x < y → AWC G ad cn h0 M Q g (pc + 3) lv st) : AWC G ad cn h0 M Q g pc lv (.int y :: .int x :: st) := fun h hr => AW_icmp_lt hd ht (fun z => kt z h hr) (fun z => kf z h hr)
theorem AWC_if_lt {x : Int32} {off : Int} {tgt : Nat} (hd : decode (mC M) pc = .ok (.ifCond .lt off, 3)) (ht : (pc : Int) + off = (tgt : Int)) (kt : x < 0 → AWC G ad cn h0 M Q g tgt lv st) (kf : ¬ x < 0 → AWC G ad cn h0 M Q g (pc + 3) lv st) : AWC G ad cn h0 M Q g pc lv (.int x :: st) := fun h hr => AW_if_lt hd ht (fun z => kt z h hr) (fun z => kf z h hr)
theorem AWC_icmp_ge {x y : Int32} {off : Int} {tgt : Nat} (hd : decode (mC M) pc = .ok (.if_icmp .ge off, 3)) (ht : (pc : Int) + off = (tgt : Int)) (kt : y ≤ x → AWC G ad cn h0 M Q g tgt lv st) (kf : ¬ y ≤ x → AWC G ad cn h0 M Q g (pc + 3) lv st) : AWC G ad cn h0 M Q g pc lv (.int y :: .int x :: st) := fun h hr => AW_icmp_ge hd ht (fun z => kt z h hr) (fun z => kf z h hr)
theorem AWC_if_ge {x : Int32} {off : Int} {tgt : Nat} (hd : decode (mC M) pc = .ok (.ifCond .ge off, 3)) (ht : (pc : Int) + off = (tgt : Int)) (kt : 0 ≤ x → AWC G ad cn h0 M Q g tgt lv st) (kf : ¬ 0 ≤ x → AWC G ad cn h0 M Q g (pc + 3) lv st) : AWC G ad cn h0 M Q g pc lv (.int x :: st) := fun h hr => AW_if_ge hd ht (fun z => kt z h hr) (fun z => kf z h hr)
theorem AWC_icmp_gt {x y : Int32} {off : Int} {tgt : Nat} (hd : decode (mC M) pc = .ok (.if_icmp .gt off, 3)) (ht : (pc : Int) + off = (tgt : Int)) (kt : y < x → AWC G ad cn h0 M Q g tgt lv st) (kf : ¬ y < x → AWC G ad cn h0 M Q g (pc + 3) lv st) : AWC G ad cn h0 M Q g pc lv (.int y :: .int x :: st) := fun h hr => AW_icmp_gt hd ht (fun z => kt z h hr) (fun z => kf z h hr)
theorem AWC_if_gt {x : Int32} {off : Int} {tgt : Nat} (hd : decode (mC M) pc = .ok (.ifCond .gt off, 3)) (ht : (pc : Int) + off = (tgt : Int)) (kt : 0 < x → AWC G ad cn h0 M Q g tgt lv st) (kf : ¬ 0 < x → AWC G ad cn h0 M Q g (pc + 3) lv st) : AWC G ad cn h0 M Q g pc lv (.int x :: st) := fun h hr => AW_if_gt hd ht (fun z => kt z h hr) (fun z => kf z h hr)
theorem AWC_icmp_le {x y : Int32} {off : Int} {tgt : Nat} (hd : decode (mC M) pc = .ok (.if_icmp .le off, 3)) (ht : (pc : Int) + off = (tgt : Int)) (kt : x ≤ y → AWC G ad cn h0 M Q g tgt lv st) (kf : ¬ x ≤ y → AWC G ad cn h0 M Q g (pc + 3) lv st) : AWC G ad cn h0 M Q g pc lv (.int y :: .int x :: st) := fun h hr => AW_icmp_le hd ht (fun z => kt z h hr) (fun z => kf z h hr)
theorem AWC_if_le {x : Int32} {off : Int} {tgt : Nat} (hd : decode (mC M) pc = .ok (.ifCond .le off, 3)) (ht : (pc : Int) + off = (tgt : Int)) (kt : x ≤ 0 → AWC G ad cn h0 M Q g tgt lv st) (kf : ¬ x ≤ 0 → AWC G ad cn h0 M Q g (pc + 3) lv st) : AWC G ad cn h0 M Q g pc lv (.int x :: st) := fun h hr => AW_if_le hd ht (fun z => kt z h hr) (fun z => kf z h hr)
theorem AWC_ifb_eq {p : Bool} {off : Int} {tgt : Nat} (hd : decode (mC M) pc = .ok (.ifCond .eq off, 3)) (ht : (pc : Int) + off = (tgt : Int)) (kt : p = false → AWC G ad cn h0 M Q g tgt lv st) (kf : p = true → AWC G ad cn h0 M Q g (pc + 3) lv st) : AWC G ad cn h0 M Q g pc lv (.int (bI p) :: st) := AWC_if_eq hd ht (fun z => kt (bI_0.mp z)) (fun z => kf (bI_n0.mp z))
theorem AWC_ifb_ne {p : Bool} {off : Int} {tgt : Nat} (hd : decode (mC M) pc = .ok (.ifCond .ne off, 3)) (ht : (pc : Int) + off = (tgt : Int)) (kt : p = true → AWC G ad cn h0 M Q g tgt lv st) (kf : p = false → AWC G ad cn h0 M Q g (pc + 3) lv st) : AWC G ad cn h0 M Q g pc lv (.int (bI p) :: st) := AWC_if_ne hd ht (fun z => kt (bI_n0.mp z)) (fun z => kf (bI_0.mp z))
theorem AWC_goto {off : Int} {tgt : Nat} (hd : decode (mC M) pc = .ok (.goto off, 3)) (ht : (pc : Int) + off = (tgt : Int)) (k : AWC G ad cn h0 M Q g tgt lv st) : AWC G ad cn h0 M Q g pc lv st := fun h hr => AW_goto hd ht (k h hr)
theorem AWC_tableIn {dflt lo hi : Int} {offs : Array Int} {len : Nat} {x : Int32} {off : Int} {tgt : Nat} (hd : decode (mC M) pc = .ok (.tableswitch dflt lo hi offs, len)) (h1 : ¬ x.toInt < lo) (h2 : ¬ hi < x.toInt) (ho : offs[(x.toInt - lo).toNat]? = some off) (ht : (pc : Int) + off = (tgt : Int)) (k : AWC G ad cn h0 M Q g tgt lv st) : AWC G ad cn h0 M Q g pc lv (.int x :: st) := fun h hr => AW_tableIn hd h1 h2 ho ht (k h hr)
theorem AWC_tableOut {dflt lo hi : Int} {offs : Array Int} {len : Nat} {x : Int32} {tgt : Nat} (hd : decode (mC M) pc = .ok (.tableswitch dflt lo hi offs, len)) (h1 : x.toInt < lo ∨ hi < x.toInt) (ht : (pc : Int) + dflt = (tgt : Int)) (k : AWC G ad cn h0 M Q g tgt lv st) : AWC G ad cn h0 M Q g pc lv (.int x :: st) := fun h hr => AW_tableOut hd h1 ht (k h hr)
theorem AWC_ldc {index : Nat} {v : Int32} (hw : Cond.constant (mY M).cls index v ∈ lw_all) (hd : decode (mC M) pc = .ok (.ldc index, 2)) (k : AWC G ad cn h0 M Q g (pc + 2) lv (.int v :: st)) : AWC G ad cn h0 M Q g pc lv st := fun h hr => AW_ldc hw hd (k h hr)
theorem AWC_ldcw {index : Nat} {v : Int32} (hw : Cond.constant (mY M).cls index v ∈ lw_all) (hd : decode (mC M) pc = .ok (.ldc_w index, 3)) (k : AWC G ad cn h0 M Q g (pc + 3) lv (.int v :: st)) : AWC G ad cn h0 M Q g pc lv st := fun h hr => AW_ldcw hw hd (k h hr)
theorem AWC_ldc2 {index : Nat} {v : Int64} (hw : Cond.constantLong (mY M).cls index v ∈ lw_all) (hd : decode (mC M) pc = .ok (.ldc2_w index, 3)) (k : AWC G ad cn h0 M Q g (pc + 3) lv (.long v :: st)) : AWC G ad cn h0 M Q g pc lv st := fun h hr => AW_ldc2 hw hd (k h hr)
theorem AWC_iret {v : Int32} {ty : FieldType} (hr : mT M = some ty) (hn : narrow ty (.int v) = .int v) (hd : decode (mC M) pc = .ok (.ireturn, 1)) (hq : Q (some (.int v)) g) : AWC G ad cn h0 M Q g pc lv [.int v] := fun h hR => AW_iret hr hn hd ⟨_, rfl, g, hR, hq⟩
theorem AWC_lret {v : Int64} (hr : mT M = some .long) (hd : decode (mC M) pc = .ok (.lreturn, 1)) (hq : Q (some (.long v)) g) : AWC G ad cn h0 M Q g pc lv [.long v] := fun h hR => AW_lret hr hd ⟨_, rfl, g, hR, hq⟩
theorem AWC_vret (hr : mT M = none) (hd : decode (mC M) pc = .ok (.return_, 1)) (hq : Q none g) : AWC G ad cn h0 M Q g pc lv [] := fun h hR => AW_vret hr hd ⟨_, rfl, g, hR, hq⟩

/-- fields and arrays -/
theorem kB_ne {c : Cn} {b : Nat} {kd : Nat ⊕ (Nat × Nat)} (h : kB c b = some kd) : kB c b ≠ none := by rw [h]; exact fun z => by cases z
theorem AWC_getI {ci : Nat} {C : String} {T : u_T} {N index : Nat} (b k : Nat) (hB : kB cn b = some (.inl ci)) (hC : Cls ci C T N) (hk : k < N) (ht : isI (fty ci k) = true) (hf : FL (mY M).cls index (T k).1 (T k).2.1 (T k).2.2.1) (hd : decode (mC M) pc = .ok (.getfield index, 3)) (kk : AWC G ad cn h0 M Q g (pc + 3) lv (.int (g b k) :: st)) : AWC G ad cn h0 M Q g pc lv (.ref (ad b) :: st) := fun h hr => AW_getI k hC hk ht hf hd (hr.1.1 b _ hB) (by rw [hr.2.1 b (kB_ne hB) k]; exact kk h hr)
theorem AWC_getR {ci : Nat} {C : String} {T : u_T} {N index : Nat} (b k b' : Nat) (hB : kB cn b = some (.inl ci)) (hr : rB cn b k = some b') (hC : Cls ci C T N) (hk : k < N) (ht : isRf (fty ci k) = true) (hf : FL (mY M).cls index (T k).1 (T k).2.1 (T k).2.2.1) (hd : decode (mC M) pc = .ok (.getfield index, 3)) (kk : AWC G ad cn h0 M Q g (pc + 3) lv (.ref (ad b') :: st)) : AWC G ad cn h0 M Q g pc lv (.ref (ad b) :: st) := fun h hR => AW_getR k hC hk ht hf hd (hR.1.1 b _ hB) (hR.1.2.1 b k b' (kB_ne hB) hr) (kk h hR)
theorem AWC_getRule {index : Nat} (hr : 0 ≤ g 27 0) (hf : FL (mY M).cls index (TX7 7).1 (TX7 7).2.1 (TX7 7).2.2.1) (hd : decode (mC M) pc = .ok (.getfield index, 3)) (kk : AWC G ad cn h0 M Q g (pc + 3) lv (.ref (ad (4 + (g 27 0).toNatClampNeg)) :: st)) : AWC G ad cn h0 M Q g pc lv (.ref (ad 3) :: st) := fun h hR => AW_getR 7 clX7 (by decide) rfl hf hd (hR.1.1 3 _ rfl) (hR.2.2.1.1 hr) (kk h hR)
theorem AWC_getSky {index : Nat} (hr : 0 ≤ g 27 1) (hf : FL (mY M).cls index (TX7 8).1 (TX7 8).2.1 (TX7 8).2.2.1) (hd : decode (mC M) pc = .ok (.getfield index, 3)) (kk : AWC G ad cn h0 M Q g (pc + 3) lv (.ref (ad (30 + (g 27 1).toNatClampNeg)) :: st)) : AWC G ad cn h0 M Q g pc lv (.ref (ad 3) :: st) := fun h hR => AW_getR 8 clX7 (by decide) rfl hf hd (hR.1.1 3 _ rfl) (hR.2.2.1.2 hr) (kk h hR)
theorem AWC_putI {ci : Nat} {C : String} {T : u_T} {N index : Nat} {v : Int32} (b k : Nat) (hB : kB cn b = some (.inl ci)) (hC : Cls ci C T N) (hk : k < N) (ht : fty ci k = .int) (hf : FL (mY M).cls index (T k).1 (T k).2.1 (T k).2.2.1) (hfin : (T k).2.2.2 = false) (hd : decode (mC M) pc = .ok (.putfield index, 3)) (kk : AWC G ad cn h0 M Q (up2 g b k v) (pc + 3) lv st) : AWC G ad cn h0 M Q g pc lv (.int v :: .ref (ad b) :: st) := fun h hr => AW_putI k hC hk (by rw [ht]; rfl) hf hfin (by rw [ht]; rfl) (by rw [ht]; rfl) hd (hr.1.1 b _ hB) (kk _ (hr.put (kB_ne hB) k v))
theorem CRep.putW {c : Cn} {h : Hp} (t : CRep ad c g h0 h) (hr : rB c 3 7 = none ∧ rB c 3 8 = none) (w : Nat) (hw : w = 0 ∨ w = 1) (n : Nat) (hn : n < 2 ^ 31) : CRep ad c (up2 g 27 w (nI n)) h0 (sR h (ad 3) (7 + w) (some (ad ((if w = 0 then 4 else 30) + n)))) := by
  obtain ⟨t1, t2, t3, t4⟩ := t
  have k3 : kB c 3 ≠ none := fun z => by cases z
  refine ⟨⟨t1.1, fun b k b' hb hrb => ?_, t1.2.2⟩, fun b hb k => ?_, ⟨fun z => ?_, fun z => ?_⟩, t4.1, fun a k hk => ?_, t4.2.2.1, t4.2.2.2⟩
  · rw [xR_sR, if_neg]
    · exact t1.2.1 b k b' hb hrb
    · rintro ⟨e1, e2⟩
      have : b = 3 := t1.2.2 b 3 hb k3 e1
      subst this
      subst e2
      rcases hw with z | z <;> subst z
      · rw [hr.1] at hrb; cases hrb
      · rw [hr.2] at hrb; cases hrb
  · have hb27 : b ≠ 27 := fun z => hb (by rw [z]; rfl)
    rw [up2_n _ _ _ _ hb27]
    exact t2 b hb k
  · rcases hw with e | e <;> subst e
    · rw [xR_sR, if_pos ⟨rfl, rfl⟩, up2_s, nc n]
      rfl
    · have e9 : up2 g 27 1 (nI n) 27 0 = g 27 0 := by simp [up2]
      rw [e9] at z ⊢
      rw [xR_sR, if_neg (fun y => by omega)]
      exact t3.1 z
  · rcases hw with e | e <;> subst e
    · have e9 : up2 g 27 0 (nI n) 27 1 = g 27 1 := by simp [up2]
      rw [e9] at z ⊢
      rw [xR_sR, if_neg (fun y => by omega)]
      exact t3.2 z
    · rw [xR_sR, if_pos ⟨rfl, rfl⟩, up2_s, nc n]
      rfl
  · rw [xR_sR, if_neg]
    · exact t4.2.1 a k hk
    · rintro ⟨e1, e2⟩
      exact hk ⟨e1, by omega⟩
theorem AWC_putRule {index n : Nat} (hn : n < 3) (hf : FL (mY M).cls index (TX7 7).1 (TX7 7).2.1 (TX7 7).2.2.1) (hd : decode (mC M) pc = .ok (.putfield index, 3)) (kk : AWC G ad cn h0 M Q (up2 g 27 0 (nI n)) (pc + 3) lv st) : AWC G ad cn h0 M Q g pc lv (.ref (ad (4 + n)) :: .ref (ad 3) :: st) := fun h hr => AW_putR 7 clX7 (by decide) rfl hf rfl hd (hr.1.1 3 _ rfl) (kk _ (hr.putW ⟨rfl, rfl⟩ 0 (Or.inl rfl) n (by omega)))
theorem AWC_putSky {index n : Nat} (hn : n < 10) (hf : FL (mY M).cls index (TX7 8).1 (TX7 8).2.1 (TX7 8).2.2.1) (hd : decode (mC M) pc = .ok (.putfield index, 3)) (kk : AWC G ad cn h0 M Q (up2 g 27 1 (nI n)) (pc + 3) lv st) : AWC G ad cn h0 M Q g pc lv (.ref (ad (30 + n)) :: .ref (ad 3) :: st) := fun h hr => AW_putR 8 clX7 (by decide) rfl hf rfl hd (hr.1.1 3 _ rfl) (kk _ (hr.putW ⟨rfl, rfl⟩ 1 (Or.inr rfl) n (by omega)))
theorem AWC_iald {b n : Nat} {i : Int32} (hB : kB cn b = some (.inr (0, n))) (hd : decode (mC M) pc = .ok (.iaload, 1)) (hi : vp_in i n) (kk : AWC G ad cn h0 M Q g (pc + 1) lv (.int (g b i.toNatClampNeg) :: st)) : AWC G ad cn h0 M Q g pc lv (.int i :: .ref (ad b) :: st) := fun h hr => AW_iald hd (hr.1.1 b _ hB) hi (by rw [hr.2.1 b (kB_ne hB)]; exact kk h hr)
theorem AWC_bald {b n : Nat} {i : Int32} (hB : kB cn b = some (.inr (1, n))) (hd : decode (mC M) pc = .ok (.baload, 1)) (hi : vp_in i n) (kk : AWC G ad cn h0 M Q g (pc + 1) lv (.int (g b i.toNatClampNeg) :: st)) : AWC G ad cn h0 M Q g pc lv (.int i :: .ref (ad b) :: st) := fun h hr => AW_bald hd (hr.1.1 b _ hB) hi (by rw [hr.2.1 b (kB_ne hB)]; exact kk h hr)
theorem AWC_zald {b n : Nat} {i : Int32} (hB : kB cn b = some (.inr (2, n))) (hd : decode (mC M) pc = .ok (.baload, 1)) (hi : vp_in i n) (kk : AWC G ad cn h0 M Q g (pc + 1) lv (.int (g b i.toNatClampNeg) :: st)) : AWC G ad cn h0 M Q g pc lv (.int i :: .ref (ad b) :: st) := fun h hr => AW_zald hd (hr.1.1 b _ hB) hi (by rw [hr.2.1 b (kB_ne hB)]; exact kk h hr)
theorem AWC_iast {b n : Nat} {i x : Int32} (hB : kB cn b = some (.inr (0, n))) (hd : decode (mC M) pc = .ok (.iastore, 1)) (hi : vp_in i n) (kk : AWC G ad cn h0 M Q (up2 g b i.toNatClampNeg x) (pc + 1) lv st) : AWC G ad cn h0 M Q g pc lv (.int x :: .int i :: .ref (ad b) :: st) := fun h hr => AW_iast hd (hr.1.1 b _ hB) hi (kk _ (hr.put (kB_ne hB) _ _))
theorem AWC_bast {b n : Nat} {i x : Int32} (hB : kB cn b = some (.inr (1, n))) (hd : decode (mC M) pc = .ok (.bastore, 1)) (hi : vp_in i n) (kk : AWC G ad cn h0 M Q (up2 g b i.toNatClampNeg (vp_nar .byte x)) (pc + 1) lv st) : AWC G ad cn h0 M Q g pc lv (.int x :: .int i :: .ref (ad b) :: st) := fun h hr => AW_bast hd (hr.1.1 b _ hB) hi rfl (kk _ (hr.put (kB_ne hB) _ _))
theorem AWC_zast {b n : Nat} {i : Int32} {x : Int32} {p : Bool} (hB : kB cn b = some (.inr (2, n))) (hp : x = bI p) (hd : decode (mC M) pc = .ok (.bastore, 1)) (hi : vp_in i n) (kk : AWC G ad cn h0 M Q (up2 g b i.toNatClampNeg (bI p)) (pc + 1) lv st) : AWC G ad cn h0 M Q g pc lv (.int x :: .int i :: .ref (ad b) :: st) := fun h hr => by
  subst hp
  exact AW_zast hd (hr.1.1 b _ hB) hi (by cases p <;> decide) (kk _ (hr.put (kB_ne hB) _ _))
theorem AWC_aald {b b' t n : Nat} {i : Int32} (hB : kB cn b = some (.inr (t, n))) (hr : rB cn b i.toNatClampNeg = some b') (ht : ¬ t < 3) (ht9 : t < 9) (hd : decode (mC M) pc = .ok (.aaload, 1)) (hi : vp_in i n) (kk : AWC G ad cn h0 M Q g (pc + 1) lv (.ref (ad b') :: st)) : AWC G ad cn h0 M Q g pc lv (.int i :: .ref (ad b) :: st) := fun h hR => AW_aald hd (hR.1.1 b _ hB) ht ht9 hi (hR.1.2.1 b _ b' (kB_ne hB) hr) (kk h hR)
theorem AWC_alen {b t n : Nat} {v : Int32} (hB : kB cn b = some (.inr (t, n))) (ht9 : t < 9) (hv : Int32.ofNat n = v) (hd : decode (mC M) pc = .ok (.arraylength, 1)) (kk : AWC G ad cn h0 M Q g (pc + 1) lv (.int v :: st)) : AWC G ad cn h0 M Q g pc lv (.ref (ad b) :: st) := fun h hR => AW_alen hd (hR.1.1 b _ hB) ht9 hv (kk h hR)
theorem AWC_mmax {index : Nat} {x y : Int32} (hw1 : Cond.methodLink (mY M).cls index Lib.Math.max.name ∈ lw_all) (hw2 : Cond.static Lib.Math.max.name ∈ lw_all) (hw3 : Cond.initialized "java/lang/Math" ∈ lw_all) (hw4 : Cond.code Lib.Math.max.name Lib.Math.max.code 2 (some .int) ∈ lw_all) (hR1 : 1 ≤ (mR M).frames) (hR2 : (st.map fun v => v.category).sum + 13 ≤ (mR M).locals) (hd : decode (mC M) pc = .ok (.invokestatic index, 3)) (kk : AWC G ad cn h0 M Q g (pc + 3) lv (.int (if x < y then y else x) :: st)) : AWC G ad cn h0 M Q g pc lv (.int y :: .int x :: st) := fun h hR => AW_mmax hw1 hw2 hw3 hw4 hR1 hR2 hd (kk h hR)
theorem AWC_mmin {index : Nat} {x y : Int32} (hw1 : Cond.methodLink (mY M).cls index Lib.Math.min.name ∈ lw_all) (hw2 : Cond.static Lib.Math.min.name ∈ lw_all) (hw3 : Cond.initialized "java/lang/Math" ∈ lw_all) (hw4 : Cond.code Lib.Math.min.name Lib.Math.min.code 2 (some .int) ∈ lw_all) (hR1 : 1 ≤ (mR M).frames) (hR2 : (st.map fun v => v.category).sum + 13 ≤ (mR M).locals) (hd : decode (mC M) pc = .ok (.invokestatic index, 3)) (kk : AWC G ad cn h0 M Q g (pc + 3) lv (.int (if y < x then y else x) :: st)) : AWC G ad cn h0 M Q g pc lv (.int y :: .int x :: st) := fun h hR => AW_mmin hw1 hw2 hw3 hw4 hR1 hR2 hd (kk h hR)
theorem AWC_mabs {index : Nat} {x : Int32} (hw1 : Cond.methodLink (mY M).cls index Lib.Math.abs.name ∈ lw_all) (hw2 : Cond.static Lib.Math.abs.name ∈ lw_all) (hw3 : Cond.initialized "java/lang/Math" ∈ lw_all) (hw4 : Cond.code Lib.Math.abs.name Lib.Math.abs.code 1 (some .int) ∈ lw_all) (hR1 : 1 ≤ (mR M).frames) (hR2 : (st.map fun v => v.category).sum + 13 ≤ (mR M).locals) (hd : decode (mC M) pc = .ok (.invokestatic index, 3)) (kk : AWC G ad cn h0 M Q g (pc + 3) lv (.int (if 0 ≤ x then x else 0 - x) :: st)) : AWC G ad cn h0 M Q g pc lv (.int x :: st) := fun h hR => AW_mabs hw1 hw2 hw3 hw4 hR1 hR2 hd (kk h hR)
def cpB (g : Tg) (s sp d dp n : Nat) : Tg := fun b j => if b = d then va_cpy (g s) (g d) sp dp n j else g b j
theorem CRep.cpy {c : Cn} {h : Hp} (t : CRep ad c g h0 h) {s d : Nat} (hs : kB c s ≠ none) (hd : kB c d ≠ none) (sp dp n : Nat) : CRep ad c (cpB g s sp d dp n) h0 (sC h (ad s) sp (ad d) dp n) := by
  obtain ⟨t1, t2, t3, t4⟩ := t
  have hd27 : (27 : Nat) ≠ d := fun z => hd (by rw [← z]; rfl)
  have e27 : ∀ j, cpB g s sp d dp n 27 j = g 27 j := fun j => by unfold cpB; rw [if_neg hd27]
  have es : xI h (ad s) = g s := funext (t2 s hs)
  have ed : xI h (ad d) = g d := funext (t2 d hd)
  refine ⟨t1, fun b' hb' j => ?_, ⟨fun z => ?_, fun z => ?_⟩, t4.1, t4.2.1, fun a ha j => ?_, t4.2.2.2⟩
  · rw [xI_sC]
    unfold cpB
    by_cases e : b' = d
    · subst e
      rw [if_pos rfl, if_pos rfl, es, ed]
    · rw [if_neg (fun z => e (t1.2.2 b' d hb' hd z)), if_neg e]
      exact t2 b' hb' j
  · rw [e27] at z ⊢
    exact t3.1 z
  · rw [e27] at z ⊢
    exact t3.2 z
  · rw [xI_sC, if_neg (fun z => ha d hd z)]
    exact t4.2.2.1 a ha j
theorem AWC_copy {index s d t n0 n1 : Nat} {sp dp n : Int32} (hw1 : Cond.methodLink (mY M).cls index arraycopyName ∈ lw_all) (hw2 : Cond.native arraycopyName ∈ lw_all) (hw3 : Cond.static arraycopyName ∈ lw_all) (hw4 : Cond.initialized "java/lang/System" ∈ lw_all) (ht : t < 3) (hK0 : kB cn s = some (.inr (t, n0))) (hK1 : kB cn d = some (.inr (t, n1))) (h1 : ¬ sp < 0) (h2 : ¬ dp < 0) (h3 : ¬ n < 0) (h4 : sp.toNatClampNeg + n.toNatClampNeg ≤ n0) (h5 : dp.toNatClampNeg + n.toNatClampNeg ≤ n1) (hfit : ∀ i, i < n.toNatClampNeg → fits (aty t) (.int (g s (sp.toNatClampNeg + i))) = true) (hR1 : 1 ≤ (mR M).frames) (hR2 : (st.map fun v => v.category).sum + (nativeFrameWords "java/lang/System" "arraycopy" 5 + 11) ≤ (mR M).locals) (hd : decode (mC M) pc = .ok (.invokestatic index, 3)) (kk : AWC G ad cn h0 M Q (cpB g s sp.toNatClampNeg d dp.toNatClampNeg n.toNatClampNeg) (pc + 3) lv st) : AWC G ad cn h0 M Q g pc lv (.int n :: .int dp :: .ref (ad d) :: .int sp :: .ref (ad s) :: st) := fun h hr => AW_copy hw1 hw2 hw3 hw4 ht (hr.1.1 s _ hK0) (hr.1.1 d _ hK1) h1 h2 h3 h4 h5 (fun i hi => by rw [hr.2.1 s (kB_ne hK0)]; exact hfit i hi) hR1 hR2 hd (kk _ (hr.cpy (kB_ne hK0) (kB_ne hK1) _ _ _))
theorem AWC_castS {ci : Nat} {C : String} {T : u_T} {N index b : Nat} (hC : Cls ci C T N) (hw : Cond.classLink (mY M).cls index C ∈ lw_all) (hB : kB cn b = some (.inl ci)) (hd : decode (mC M) pc = .ok (.checkcast index, 3)) (kk : AWC G ad cn h0 M Q g (pc + 3) lv (.ref (ad b) :: st)) : AWC G ad cn h0 M Q g pc lv (.ref (ad b) :: st) := fun h hr => AW_castS hC hw hd (hr.1.1 b _ hB) (kk h hr)
theorem AWC_aret {b : Nat} {rt : FieldType} (hr : mT M = some rt) (hrt : (∃ n, rt = .object n) ∨ ∃ t, rt = .array t) (hd : decode (mC M) pc = .ok (.areturn, 1)) (hq : Q (some (.ref (ad b))) g) : AWC G ad cn h0 M Q g pc lv [.ref (ad b)] := fun h hR => AW_aret hr hrt (Or.inr ⟨_, rfl⟩) hd ⟨_, rfl, g, hR, hq⟩
theorem AWC_callV {M' : Mi} {ci : Nat} {C : String} {T : u_T} {N index n a : Nat} {Q1 : Option Value → Tg → Prop} (As rest : List Value) (hC : Cls ci C T N) (hB : kB cn a = some (.inl ci)) (hy : (mY M').cls = C) (hN : Nm (mY M') n) (hz : (mR M').cells = 0 ∧ (mR M').slots = 0) (hl1 : ML (mY M).cls index (mY M')) (hw2 : Cond.instanceMethod (mY M') ∈ lw_all) (hw3 : Cond.selects C (mY M') (mY M') ∈ lw_all) (hw4 : Cond.initialized C ∈ lw_all) (hw5 : Cond.code (mY M') (mC M') (mL M') (mT M') ∈ lw_all) (hd : decode (mC M) pc = .ok (.invokevirtual index, 3)) (hst : st = As.reverse ++ .ref (ad a) :: rest) (hn : As.length = n) (hr : (rest.map fun v => v.category).sum ≤ 8) (hR : Rm M M') (hM : MCC G ad cn M' (.ref (ad a) :: As) g Q1)
    (kk : ∀ v g', Q1 v g' → AWC G ad cn h0 M Q g' (pc + 3) lv (v.toList ++ rest)) : AWC G ad cn h0 M Q g pc lv st := fun h hrp =>
  AW_callV (b' := (0, 0)) As rest hC hy hN hl1 hw2 hw3 hw4 hw5 hd (hrp.1.1 a _ hB) (hM h0 h hrp) hst hn hr hR (by rw [hz.1]; exact Nat.le_refl _) (by rw [hz.2]; exact Nat.le_refl _) (fun v h' ⟨g', h1, h2⟩ => kk v g' h2 h' h1)
theorem AWC_callS {M' : Mi} {index n : Nat} {Q1 : Option Value → Tg → Prop} (As rest : List Value) (hN : Nm (mY M') n) (hz : (mR M').cells = 0 ∧ (mR M').slots = 0) (hl1 : ML (mY M).cls index (mY M')) (hw2 : Cond.static (mY M') ∈ lw_all) (hw4 : Cond.initialized (mY M').cls ∈ lw_all) (hw5 : Cond.code (mY M') (mC M') (mL M') (mT M') ∈ lw_all) (hd : decode (mC M) pc = .ok (.invokestatic index, 3)) (hst : st = As.reverse ++ rest) (hn : As.length = n) (hr : (rest.map fun v => v.category).sum ≤ 8) (hR : Rm M M') (hM : MCC G ad cn M' As g Q1)
    (kk : ∀ v g', Q1 v g' → AWC G ad cn h0 M Q g' (pc + 3) lv (v.toList ++ rest)) : AWC G ad cn h0 M Q g pc lv st := fun h hrp =>
  AW_callS (b' := (0, 0)) As rest hN hl1 hw2 hw4 hw5 hd (hM h0 h hrp) hst hn hr hR (by rw [hz.1]; exact Nat.le_refl _) (by rw [hz.2]; exact Nat.le_refl _) (fun v h' ⟨g', h1, h2⟩ => kk v g' h2 h' h1)
theorem AWC_callU {M' : Mi} {ci : Nat} {C owner : String} {T : u_T} {N index a n : Nat} {x : MethodName} {Q1 : Option Value → Tg → Prop} (As rest : List Value) (hC : Cls ci C T N) (hB : kB cn a = some (.inl ci)) (ho : owner ≠ "java/lang/invoke/MethodHandle" ∧ owner ≠ "java/lang/invoke/VarHandle" ∧ (parseMethodDescriptor x.desc).map (fun d => d.parameters.length) = some n) (hz : (mR M').cells = 0 ∧ (mR M').slots = 0) (hw1 : Cond.methodLink (mY M).cls index x ∈ lw_all) (hw2 : Cond.sameMethod x.cls owner x.name x.desc ∈ lw_all) (hdec : Cond.declares ⟨owner, x.name, x.desc⟩ ∈ lw_tbl ∨ (Cond.instanceMethod ⟨owner, x.name, x.desc⟩ ∈ lw_all ∧ ∃ b0 m0 r0, Cond.code ⟨owner, x.name, x.desc⟩ b0 m0 r0 ∈ lw_all)) (hw3 : Cond.selects C x (mY M') ∈ lw_all) (hw4 : Cond.instanceMethod (mY M') ∈ lw_all) (hw5 : Cond.initialized (mY M').cls ∈ lw_all) (hw6 : Cond.code (mY M') (mC M') (mL M') (mT M') ∈ lw_all) (hd : decode (mC M) pc = .ok (.invokevirtual index, 3)) (hst : st = As.reverse ++ .ref (ad a) :: rest) (hn : As.length = n) (hr : (rest.map fun v => v.category).sum ≤ 8) (hR : Rm M M') (hM : MCC G ad cn M' (.ref (ad a) :: As) g Q1)
    (kk : ∀ v g', Q1 v g' → AWC G ad cn h0 M Q g' (pc + 3) lv (v.toList ++ rest)) : AWC G ad cn h0 M Q g pc lv st := fun h hrp =>
  AW_callU (b' := (0, 0)) As rest hC ho hw1 hw2 hdec hw3 hw4 hw5 hw6 hd (hrp.1.1 a _ hB) (hM h0 h hrp) hst hn hr hR (by rw [hz.1]; exact Nat.le_refl _) (by rw [hz.2]; exact Nat.le_refl _) (fun v h' ⟨g', h1, h2⟩ => kk v g' h2 h' h1)
theorem AWC_callSU {M' : Mi} {ci : Nat} {C : String} {T : u_T} {N index a n : Nat} {Q1 : Option Value → Tg → Prop} (As rest : List Value) (hC : Cls ci C T N) (hB : kB cn a = some (.inl ci)) (ho : (mY M').name ≠ "<init>" ∧ (parseMethodDescriptor (mY M').desc).map (fun d => d.parameters.length) = some n) (hz : (mR M').cells = 0 ∧ (mR M').slots = 0) (hw1 : Cond.methodLink (mY M).cls index (mY M') ∈ lw_all) (hw2 : Cond.sameMethod (mY M').cls (mY M').cls (mY M').name (mY M').desc ∈ lw_all) (hw3 : Cond.superclass (mY M).cls (mY M').cls ∈ lw_all) (hw4 : Cond.instanceMethod (mY M') ∈ lw_all) (hw5 : Cond.initialized (mY M').cls ∈ lw_all) (hw6 : Cond.code (mY M') (mC M') (mL M') (mT M') ∈ lw_all) (hd : decode (mC M) pc = .ok (.invokespecial index, 3)) (hst : st = As.reverse ++ .ref (ad a) :: rest) (hn : As.length = n) (hr : (rest.map fun v => v.category).sum ≤ 8) (hR : Rm M M') (hM : MCC G ad cn M' (.ref (ad a) :: As) g Q1)
    (kk : ∀ v g', Q1 v g' → AWC G ad cn h0 M Q g' (pc + 3) lv (v.toList ++ rest)) : AWC G ad cn h0 M Q g pc lv st := fun h hrp =>
  AW_callSU (b' := (0, 0)) As rest hC ho hw1 hw2 hw3 hw4 hw5 hw6 hd (hrp.1.1 a _ hB) (hM h0 h hrp) hst hn hr hR (by rw [hz.1]; exact Nat.le_refl _) (by rw [hz.2]; exact Nat.le_refl _) (fun v h' ⟨g', h1, h2⟩ => kk v g' h2 h' h1)
/-- a look: of a plan's first step, or a later one, or the one beside -/
def isLk (c : Cn) (b : Nat) : Prop := kB c b = some (.inl 13) ∨ kB c b = some (.inl 14)
theorem isLk_st {c : Cn} {p j : Nat} (h : p < cP c) (hj : j < cS c p) (h3 : j < 3) : isLk c (63 + 8 * p + j) := by
  have := kB_look h hj h3
  by_cases h0 : j = 0
  · rw [if_pos h0] at this; exact Or.inl this
  · rw [if_neg h0] at this; exact Or.inr this
theorem AWC_getLk {index : Nat} (b k : Nat) (hB : isLk cn b) (hk : k < 4) (ht : isI (fty 13 k) = true) (ht2 : isI (fty 14 k) = true) (hf : FL (mY M).cls index (TX13 k).1 (TX13 k).2.1 (TX13 k).2.2.1) (hf2 : FL (mY M).cls index (TX14 k).1 (TX14 k).2.1 (TX14 k).2.2.1) (hd : decode (mC M) pc = .ok (.getfield index, 3)) (kk : AWC G ad cn h0 M Q g (pc + 3) lv (.int (g b k) :: st)) : AWC G ad cn h0 M Q g pc lv (.ref (ad b) :: st) := by
  rcases hB with hB | hB
  · exact AWC_getI b k hB clX13 hk ht hf hd kk
  · exact AWC_getI b k hB clX14 (by omega) ht2 hf2 hd kk
end AWC
