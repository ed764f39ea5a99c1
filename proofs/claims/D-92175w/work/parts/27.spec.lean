/-! ===== a watch: the spec, and the reference's watchTo (printed by h27.py) ===== -/
/-- the reference's own scratch may change -/
def TSam (f f' : Tf) (g g' : Tg) : Prop := (f' 0 = f 0 ∧ f' 1 = f 1 ∧ f' 2 = f 2 ∧ f' 6 = f 6 ∧ f' 7 = f 7 ∧ f' 8 = f 8 ∧ f' 10 = f 10 ∧ f' 12 = f 12 ∧ f' 21 = f 21 ∧ f' 31 = f 31 ∧ f' 39 = f 39) ∧ (g' 3 = g 3 ∧ g' 4 = g 4 ∧ g' 5 = g 5 ∧ g' 9 = g 9 ∧ g' 11 = g 11 ∧ g' 13 = g 13 ∧ g' 22 = g 22 ∧ g' 37 = g 37 ∧ g' 38 = g 38)
theorem TSam.rf (f : Tf) (g : Tg) : TSam f f g g := ⟨⟨rfl, rfl, rfl, rfl, rfl, rfl, rfl, rfl, rfl, rfl, rfl⟩, rfl, rfl, rfl, rfl, rfl, rfl, rfl, rfl, rfl⟩
theorem Rel.ts {cn : Cn} {c : Tg} {f f' : Tf} {g g' : Tg} (h : Rel cn c f g) (s : TSam f f' g g') : Rel cn c f' g' := by
  obtain ⟨⟨a0, a1, a2, a6, a7, a8, a10, a12, a21, a31, a39⟩, b3, b4, b5, b9, b11, b13, b22, b37, b38⟩ := s
  unfold Rel at h ⊢
  rw [a0, a1, a2, a6, a7, a8, a10, a12, a21, a31, a39, b3, b4, b5, b9, b11, b13, b22, b37, b38]
  exact h
theorem MI.ts {f f' : Tf} {g g' : Tg} (h : MI f g) (s : TSam f f' g g') : MI f' g' := by
  obtain ⟨⟨a0, a1, a2, a6, a7, a8, a10, a12, a21, a31, a39⟩, b3, b4, b5, b9, b11, b13, b22, b37, b38⟩ := s
  unfold MI PlOK StOK TgOK at h ⊢
  rw [a0, a1, a2, a6, a10, a12, a21, a31, b3, b4, b5, b9, b11, b13, b22]
  exact h
abbrev WS : Type := (Nat → Int32) × (Nat → Int32) × (Nat → Int32) × (Nat → Int32) × Int32 × Int32 × Int32 × Int32
abbrev WS.st (x : WS) : Nat → Int32 := x.1
abbrev WS.en (x : WS) : Nat → Int32 := x.2.1
abbrev WS.br (x : WS) : Nat → Int32 := x.2.2.1
abbrev WS.lo (x : WS) : Nat → Int32 := x.2.2.2.1
abbrev WS.sc (x : WS) : Int32 := x.2.2.2.2.1
abbrev WS.ins (x : WS) : Int32 := x.2.2.2.2.2.1
abbrev WS.go (x : WS) : Int32 := x.2.2.2.2.2.2.1
abbrev WS.re (x : WS) : Int32 := x.2.2.2.2.2.2.2
def wG (g : Tg) (x : WS) : Tg := fun a i => if a = 32 then x.st i else if a = 33 then x.en i else if a = 34 then x.br i else if a = 35 then x.lo i else g a i
theorem wG_32 (g : Tg) (x : WS) (p : Nat) (v : Int32) : up2 (wG g x) 32 p v = wG g ((upd x.st p v), x.en, x.br, x.lo, x.sc, x.ins, x.go, x.re) := by
  funext a i
  unfold up2 wG upd
  by_cases h : a = 32
  · subst h; simp
  · simp [h]
theorem wG_33 (g : Tg) (x : WS) (p : Nat) (v : Int32) : up2 (wG g x) 33 p v = wG g (x.st, (upd x.en p v), x.br, x.lo, x.sc, x.ins, x.go, x.re) := by
  funext a i
  unfold up2 wG upd
  by_cases h : a = 33
  · subst h; simp
  · simp [h]
theorem wG_34 (g : Tg) (x : WS) (p : Nat) (v : Int32) : up2 (wG g x) 34 p v = wG g (x.st, x.en, (upd x.br p v), x.lo, x.sc, x.ins, x.go, x.re) := by
  funext a i
  unfold up2 wG upd
  by_cases h : a = 34
  · subst h; simp
  · simp [h]
theorem wG_35 (g : Tg) (x : WS) (p : Nat) (v : Int32) : up2 (wG g x) 35 p v = wG g (x.st, x.en, x.br, (upd x.lo p v), x.sc, x.ins, x.go, x.re) := by
  funext a i
  unfold up2 wG upd
  by_cases h : a = 35
  · subst h; simp
  · simp [h]
theorem wG_ts (f : Tf) (g : Tg) (v : Int32) (x : WS) : TSam f (upd f 36 v) g (wG g x) := ⟨⟨rfl, rfl, rfl, rfl, rfl, rfl, rfl, rfl, rfl, rfl, rfl⟩, rfl, rfl, rfl, rfl, rfl, rfl, rfl, rfl, rfl⟩
theorem upd_upd (f : Tf) (k : Nat) (v w : Int32) : upd (upd f k v) k w = upd f k w := by
  funext i
  unfold upd
  by_cases h : i = k <;> simp [h]
def setGo (x : WS) (v : Int32) : WS := (x.st, x.en, x.br, x.lo, x.sc, x.ins, v, x.re)
def setLo (x : WS) (s : Nat) (v : Int32) : WS := (x.st, x.en, x.br, upd x.lo s v, x.sc, x.ins, x.go, x.re)
/-- a chain is broken -/
def brkW (f : Tf) (x : WS) (p : Nat) : WS := ((upd x.st p (if f 31 = 1 ∧ x.br p = 0 then 0 else 9)), x.en, (upd x.br p (bI true)), x.lo, x.sc, x.ins, x.go, x.re)
def lateW (g : Tg) (x : WS) (s p : Nat) : Bool := inB (x.st p) 1 2 && !decide (nI s - x.en p ≤ oS g (nI p) (x.st p) 5)
/-- chains that came too late, ahead of a plan -/
def ph1 (f : Tf) (g : Tg) (s : Nat) (x : WS) : Nat → WS
  | 0 => x
  | p + 1 => if lateW g (ph1 f g s x p) s p then brkW f (ph1 f g s x p) p else ph1 f g s x p
def mayW (f : Tf) (g : Tg) (x : WS) (s : Nat) (w : Int32) (p : Nat) : Bool := (!decide (2 < x.st p)) && ((!decide (f 0 < nI s + oS g (nI p) (x.st p) 0)) && (fitP f g (nI p) (x.st p) (nI s) w && (decide (x.st p = 0) || !decide (nI s - x.en p < oS g (nI p) (x.st p) 4))))
/-- which is taken, of those ahead of a plan -/
def ph2 (f : Tf) (g : Tg) (r w : Int32) (s : Nat) (x : WS) : Nat → Int32
  | 0 => -1
  | p + 1 => if mayW f g x s w p && (decide (ph2 f g r w s x p = -1) || aheadT f g r (nI p) (ph2 f g r w s x p) (nI s)) then nI p else ph2 f g r w s x p
def nP (f : Tf) : Nat := (f 21).toNatClampNeg
def begY (g : Tg) (w : Int32) (s : Nat) (x : WS) (t : Int32) : WS :=
  if t = -1 then (x.st, x.en, x.br, (upd x.lo s (if g 9 (12 * w + nI s).toNatClampNeg = 4 then 21 else 22)), x.sc, x.ins, x.go, x.re)
  else if g 22 (23 * t + 1).toNatClampNeg = x.ins then (x.st, x.en, x.br, x.lo, x.sc, x.ins, t, (oS g t (x.st t.toNatClampNeg) 0))
  else (x.st, x.en, x.br, (upd x.lo s 20), x.sc, (g 22 (23 * t + 1).toNatClampNeg), x.go, x.re)
def begW (f : Tf) (g : Tg) (r w : Int32) (s : Nat) (x : WS) : WS := begY g w s (ph1 f g s x (nP f)) (ph2 f g r w s (ph1 f g s x (nP f)) (nP f))
def nxW (g : Tg) (x : WS) : Int32 := if x.st x.go.toNatClampNeg + 1 = sOf g x.go then 8 else x.st x.go.toNatClampNeg + 1
def goW (f : Tf) (g : Tg) (w : Int32) (s : Nat) (x : WS) : WS :=
  if x.go = -1 then x
  else if fitP f g x.go (x.st x.go.toNatClampNeg) (nI s) w then
    (if x.re + (-1) = 0 then ((upd x.st x.go.toNatClampNeg (nxW g x)), (upd x.en x.go.toNatClampNeg (nI s + 1)), x.br, (upd x.lo s x.go), (x.sc + (if nxW g x = 8 then wOf g x.go else 0)), x.ins, -1, (x.re + (-1)))
     else (x.st, x.en, x.br, (upd x.lo s x.go), x.sc, x.ins, x.go, (x.re + (-1))))
  else setGo (brkW f (setLo x s (10 + x.go)) x.go.toNatClampNeg) (-1)
def slotW (f : Tf) (g : Tg) (r w : Int32) (s : Nat) (x : WS) : WS := goW f g w s (if x.go = -1 then begW f g r w s x else x)
def iniW (g : Tg) (p : Nat) : WS := ⟨fun i => if i < p then 0 else g 32 i, fun i => if i < p then 0 else g 33 i, fun i => if i < p then 0 else g 34 i, fun i => g 35 i, 0, 0, -1, 0⟩
/-- a watch through so many slots -/
def WZ (f : Tf) (g : Tg) (r w : Int32) : Nat → WS
  | 0 => iniW g (nP f)
  | s + 1 => slotW f g r w s (WZ f g r w s)
theorem ph1_s (f : Tf) (g : Tg) (s : Nat) (x : WS) (p : Nat) : ph1 f g s x (p + 1) = if lateW g (ph1 f g s x p) s p then brkW f (ph1 f g s x p) p else ph1 f g s x p := rfl
theorem ph1_k (f : Tf) (g : Tg) (s : Nat) (x : WS) : ∀ p, (ph1 f g s x p).en = x.en ∧ (ph1 f g s x p).lo = x.lo ∧ (ph1 f g s x p).sc = x.sc ∧ (ph1 f g s x p).ins = x.ins ∧ (ph1 f g s x p).go = x.go ∧ (ph1 f g s x p).re = x.re
  | 0 => ⟨rfl, rfl, rfl, rfl, rfl, rfl⟩
  | p + 1 => by
    have ih := ph1_k f g s x p
    rw [ph1_s]
    by_cases h : lateW g (ph1 f g s x p) s p = true
    · rw [if_pos h]
      exact ih
    · rw [if_neg h]
      exact ih
/-- the worths of what is done -/
def scS (g : Tg) (st : Nat → Int32) : Nat → Int32
  | 0 => 0
  | p + 1 => scS g st p + (if st p = 8 then g 22 (23 * p + 3) else 0)
theorem scS_c (g : Tg) (a b : Nat → Int32) : ∀ n, (∀ q, q < n → (a q = 8 ↔ b q = 8)) → scS g a n = scS g b n
  | 0, _ => rfl
  | n + 1, h => by
    show _ + _ = _ + _
    rw [scS_c g a b n (fun q hq => h q (by omega))]
    congr 1
    by_cases z : a n = 8
    · rw [if_pos z, if_pos ((h n (by omega)).mp z)]
    · rw [if_neg z, if_neg (fun y => z ((h n (by omega)).mpr y))]
theorem scS_u (g : Tg) (a : Nat → Int32) (p : Nat) (hp : a p ≠ 8) : ∀ n, p < n → scS g (upd a p 8) n = scS g a n + g 22 (23 * p + 3)
  | 0, h => by omega
  | n + 1, h => by
    show _ + _ = (_ + _) + _
    by_cases e : n = p
    · subst e
      rw [scS_c g (upd a n 8) a n (fun q hq => by rw [show upd a n 8 q = a q by unfold upd; rw [if_neg (by omega)]]), if_neg hp, show upd a n 8 n = 8 by unfold upd; rw [if_pos rfl], if_pos rfl]
      simp
    · rw [scS_u g a p hp n (by omega), show upd a p 8 n = a n by unfold upd; rw [if_neg e], Int32.add_assoc, Int32.add_assoc]
      congr 1
      exact Int32.add_comm _ _
def stO (g : Tg) (p : Nat) (v : Int32) : Prop := (∃ j : Nat, v = nI j ∧ j < stK g p) ∨ v = 8 ∨ v = 9
/-- what holds of a watch all along -/
def WI (f : Tf) (g : Tg) (x : WS) : Prop := (∀ p, p < nP f → stO g p (x.st p)) ∧ (x.go = -1 ∨ ∃ p : Nat, p < nP f ∧ x.go = nI p ∧ ∃ j : Nat, x.st p = nI j ∧ j < stK g p) ∧ x.sc = scS g x.st (nP f)
/-- what a watch needs of the state -/
def WP (f : Tf) (g : Tg) : Prop := f 21 = nI (nP f) ∧ nP f ≤ 5 ∧ (∀ p, p < nP f → PP f g p) ∧ ∃ n : Nat, f 0 = nI n ∧ nN f = n ∧ n ≤ 12
theorem WP.of {f : Tf} {g : Tg} (h : MI f g) : WP f g := by
  obtain ⟨⟨n, hn, h4, h12⟩, -, ⟨t, ht, ht8, -⟩, -, -, ⟨q, hq, hq5, hpl⟩, -⟩ := h
  have e : nP f = q := by unfold nP; rw [hq]; exact nc q
  rw [WP, e]
  exact ⟨hq, hq5, fun p hp => ⟨by omega, hpl p hp, ⟨n, hn, h4, h12⟩, ⟨t, ht, ht8⟩⟩, n, hn, by unfold nN; rw [hn]; exact nc n, h12⟩
theorem stK_of {f : Tf} {g : Tg} {p : Nat} (h : PP f g p) : 1 ≤ stK g p ∧ stK g p ≤ 3 ∧ sOf g (nI p) = nI (stK g p) := by
  have h5 := h.1
  obtain ⟨-, ⟨a, b, c, d, s, -, -, -, -, -, -, -, -, -, e, h1, h2, -⟩, -⟩ := h
  have : stK g p = s := by unfold stK; rw [e]; exact nc s
  rw [this]
  refine ⟨h1, h2, ?_⟩
  unfold sOf
  rw [lm 23 p, ra _ 4, nc (23 * p + 4)]
  exact e
theorem brkW_st {f : Tf} {g : Tg} {x : WS} {p : Nat} (h : PP f g p) (q : Nat) (hq : stO g q (x.st q)) : stO g q ((brkW f x p).st q) := by
  show stO g q (upd x.st p _ q)
  unfold upd
  by_cases e : q = p
  · subst e
    rw [if_pos rfl]
    by_cases z : f 31 = 1 ∧ x.br q = 0
    · rw [if_pos z]
      exact Or.inl ⟨0, rfl, by have := (stK_of h).1; omega⟩
    · rw [if_neg z]
      exact Or.inr (Or.inr rfl)
  · rw [if_neg e]
    exact hq
theorem brkW_8 (f : Tf) {x : WS} {p : Nat} (h : x.st p ≠ 8) (q : Nat) : (brkW f x p).st q = 8 ↔ x.st q = 8 := by
  show upd x.st p _ q = 8 ↔ _
  unfold upd
  by_cases e : q = p
  · subst e
    rw [if_pos rfl]
    constructor
    · intro z
      split at z <;> exact absurd z (by decide)
    · exact fun z => absurd z h
  · rw [if_neg e]
theorem late_8 {g : Tg} {x : WS} {s p : Nat} (h : lateW g x s p = true) : x.st p ≠ 8 := fun z => by
  have := (Bool.and_eq_true _ _ ▸ h).1
  rw [z] at this
  exact absurd this (by decide)
theorem ph1_st {f : Tf} {g : Tg} (hP : WP f g) (s : Nat) (x : WS) (q : Nat) : ∀ p, p ≤ nP f → stO g q (x.st q) → stO g q ((ph1 f g s x p).st q) ∧ ((ph1 f g s x p).st q = 8 ↔ x.st q = 8)
  | 0, _, h => ⟨h, Iff.rfl⟩
  | p + 1, hp, h => by
    have ih := ph1_st hP s x q p (by omega) h
    rw [ph1_s]
    by_cases z : lateW g (ph1 f g s x p) s p = true
    · rw [if_pos z]
      exact ⟨brkW_st (hP.2.2.1 p (by omega)) q ih.1, (brkW_8 f (late_8 z) q).trans ih.2⟩
    · rw [if_neg z]
      exact ih
theorem may_st {f : Tf} {g : Tg} {x : WS} {s p : Nat} {w : Int32} (h : mayW f g x s w p = true) (h2 : stO g p (x.st p)) : ∃ j : Nat, x.st p = nI j ∧ j < stK g p := by
  have h1 := (Bool.and_eq_true _ _ ▸ h).1
  rcases h2 with z | z | z
  · exact z
  · rw [z] at h1; exact absurd h1 (by decide)
  · rw [z] at h1; exact absurd h1 (by decide)
theorem ph2_s (f : Tf) (g : Tg) (r w : Int32) (s : Nat) (x : WS) (p : Nat) : ph2 f g r w s x (p + 1) = if mayW f g x s w p && (decide (ph2 f g r w s x p = -1) || aheadT f g r (nI p) (ph2 f g r w s x p) (nI s)) then nI p else ph2 f g r w s x p := rfl
theorem ph2_st {f : Tf} {g : Tg} (r w : Int32) (s : Nat) (x : WS) (h : ∀ p, p < nP f → stO g p (x.st p)) : ∀ n, n ≤ nP f → ph2 f g r w s x n = -1 ∨ ∃ p : Nat, p < n ∧ ph2 f g r w s x n = nI p ∧ ∃ j : Nat, x.st p = nI j ∧ j < stK g p
  | 0, _ => Or.inl rfl
  | n + 1, hn => by
    rw [ph2_s]
    by_cases z : (mayW f g x s w n && (decide (ph2 f g r w s x n = -1) || aheadT f g r (nI n) (ph2 f g r w s x n) (nI s))) = true
    · rw [if_pos z]
      exact Or.inr ⟨n, by omega, rfl, may_st (Bool.and_eq_true _ _ ▸ z).1 (h n (by omega))⟩
    · rw [if_neg z]
      rcases ph2_st r w s x h n (by omega) with y | ⟨p, hp, y⟩
      · exact Or.inl y
      · exact Or.inr ⟨p, by omega, y⟩
theorem WI.ph {f : Tf} {g : Tg} (hP : WP f g) {x : WS} (h : WI f g x) (s : Nat) : WI f g (ph1 f g s x (nP f)) ∨ x.go ≠ -1 := by
  by_cases hg : x.go = -1
  · obtain ⟨h1, -, h3⟩ := h
    have k := ph1_k f g s x (nP f)
    refine Or.inl ⟨fun p hp => (ph1_st hP s x p (nP f) (Nat.le_refl _) (h1 p hp)).1, Or.inl (by rw [k.2.2.2.2.1]; exact hg), ?_⟩
    rw [k.2.2.1, h3]
    exact scS_c g _ _ _ fun q hq => (ph1_st hP s x q (nP f) (Nat.le_refl _) (h1 q hq)).2.symm
  · exact Or.inr hg
theorem WI.beg {f : Tf} {g : Tg} (hP : WP f g) {x : WS} (h : WI f g x) (r w : Int32) (s : Nat) (hg : x.go = -1) : WI f g (begW f g r w s x) := by
  have h1 := (h.ph hP s).resolve_right (fun z => z hg)
  unfold begW
  have h2 := ph2_st (f := f) (g := g) r w s (ph1 f g s x (nP f)) h1.1 (nP f) (Nat.le_refl _)
  generalize ph1 f g s x (nP f) = y at h1 h2 ⊢
  generalize ph2 f g r w s y (nP f) = t at h2 ⊢
  unfold begY
  by_cases c1 : t = -1
  · rw [if_pos c1]
    exact h1
  · rw [if_neg c1]
    by_cases c2 : g 22 (23 * t + 1).toNatClampNeg = y.ins
    · rw [if_pos c2]
      exact ⟨h1.1, h2, h1.2.2⟩
    · rw [if_neg c2]
      exact h1
theorem nI_8 {j : Nat} (h : j < 8) : nI j ≠ 8 := by
  match j, h with
  | 0, _ => exact (by decide)
  | 1, _ => exact (by decide)
  | 2, _ => exact (by decide)
  | 3, _ => exact (by decide)
  | 4, _ => exact (by decide)
  | 5, _ => exact (by decide)
  | 6, _ => exact (by decide)
  | 7, _ => exact (by decide)
theorem nxW_eq {f : Tf} {g : Tg} {x : WS} {p j : Nat} (hpp : PP f g p) (ep : x.go = nI p) (ej : x.st p = nI j) (hj : j < stK g p) : nxW g x = if j + 1 = stK g p then 8 else nI (j + 1) := by
  have := hpp.1
  obtain ⟨k1, k3, ks⟩ := stK_of hpp
  have en : x.go.toNatClampNeg = p := by rw [ep]; exact nc p
  unfold nxW
  rw [en, ej, ep, ks, nI_1]
  by_cases e : j + 1 = stK g p
  · rw [if_pos e, e, if_pos rfl]
  · rw [if_neg e, if_neg]
    intro z
    have := congrArg Int32.toNatClampNeg z
    rw [nc (j + 1), nc (stK g p)] at this
    exact e this
theorem WI.mk {f : Tf} {g : Tg} {st en br lo : Nat → Int32} {sc ins go re : Int32} (h1 : ∀ p, p < nP f → stO g p (st p)) (h2 : go = -1 ∨ ∃ p : Nat, p < nP f ∧ go = nI p ∧ ∃ j : Nat, st p = nI j ∧ j < stK g p) (h3 : sc = scS g st (nP f)) : WI f g (st, en, br, lo, sc, ins, go, re) := ⟨h1, h2, h3⟩
theorem WI.go {f : Tf} {g : Tg} (hP : WP f g) {x : WS} (h : WI f g x) (w : Int32) (s : Nat) : WI f g (goW f g w s x) := by
  unfold goW
  by_cases c1 : x.go = -1
  · rw [if_pos c1]
    exact h
  rw [if_neg c1]
  obtain ⟨h1, h2, h3⟩ := h
  obtain ⟨p, hp, ep, j, ej, hj⟩ := h2.resolve_left c1
  have hpp := hP.2.2.1 p hp
  have := hpp.1
  obtain ⟨k1, k3, ks⟩ := stK_of hpp
  have n8 : x.st p ≠ 8 := by
    rw [ej]
    exact nI_8 (by omega)
  have en : x.go.toNatClampNeg = p := by rw [ep]; exact nc p
  have es := nxW_eq hpp ep ej hj
  by_cases c2 : fitP f g x.go (x.st x.go.toNatClampNeg) (nI s) w = true
  · rw [if_pos c2]
    by_cases c3 : x.re + (-1) = 0
    · rw [if_pos c3, en]
      generalize nxW g x = v at es ⊢
      refine WI.mk (fun q hq => ?_) (Or.inl rfl) ?_
      · unfold upd
        by_cases e : q = p
        · subst e
          rw [if_pos rfl, es]
          by_cases e : j + 1 = stK g q
          · rw [if_pos e]; exact Or.inr (Or.inl rfl)
          · rw [if_neg e]; exact Or.inl ⟨j + 1, rfl, by omega⟩
        · rw [if_neg e]
          exact h1 q hq
      · by_cases e : v = 8
        · rw [if_pos e, e, scS_u g x.st p n8 _ hp, h3, ep]
          unfold wOf
          rw [lm 23 p, ra _ 3, nc (23 * p + 3)]
        · rw [if_neg e, h3, Int32.add_zero]
          refine scS_c g _ _ _ fun q hq => ?_
          unfold upd
          by_cases y : q = p
          · subst y
            rw [if_pos rfl]
            exact ⟨fun z => absurd z n8, fun z => absurd z e⟩
          · rw [if_neg y]
    · rw [if_neg c3]
      exact WI.mk h1 h2 h3
  · rw [if_neg c2, en]
    refine WI.mk (fun q hq => brkW_st (x := setLo x s (10 + x.go)) hpp q (h1 q hq)) (Or.inl rfl) ?_
    show x.sc = scS g (brkW f (setLo x s (10 + x.go)) p).st (nP f)
    rw [h3]
    exact scS_c g _ _ _ fun q _ => (brkW_8 f (x := setLo x s (10 + x.go)) n8 q).symm
theorem WI.slot {f : Tf} {g : Tg} (hP : WP f g) {x : WS} (h : WI f g x) (r w : Int32) (s : Nat) : WI f g (slotW f g r w s x) := by
  unfold slotW
  by_cases c : x.go = -1
  · rw [if_pos c]
    exact (h.beg hP r w s c).go hP w s
  · rw [if_neg c]
    exact h.go hP w s
theorem WI.ini {f : Tf} {g : Tg} (hP : WP f g) : WI f g (iniW g (nP f)) := by
  have h0 : ∀ p, p < nP f → (iniW g (nP f)).st p = 0 := fun p hp => by show (if p < nP f then (0 : Int32) else _) = 0; rw [if_pos hp]
  refine ⟨fun p hp => Or.inl ⟨0, h0 p hp, by have := (stK_of (hP.2.2.1 p hp)).1; omega⟩, Or.inl rfl, ?_⟩
  show (0 : Int32) = _
  have : ∀ n, n ≤ nP f → scS g (iniW g (nP f)).st n = 0 := by
    intro n
    induction n with
    | zero => intro _; rfl
    | succ n ih =>
      intro hn
      show _ + _ = _
      rw [ih (by omega), h0 n (by omega), if_neg (by decide)]
      rfl
  exact (this _ (Nat.le_refl _)).symm
theorem WI.all {f : Tf} {g : Tg} (hP : WP f g) (r w : Int32) : ∀ s, WI f g (WZ f g r w s)
  | 0 => WI.ini hP
  | s + 1 => (WI.all hP r w s).slot hP r w s
