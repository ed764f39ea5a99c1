/-! ===== the relation between the component's state c and the reference's (f, g); the component's placements (printed by h18.py) ===== -/
def Rel (cn : Cn) (c : Tg) (f : Tf) (g : Tg) : Prop :=
  (c 0 0 = f 0 ∧ c 0 1 = f 1 ∧ c 0 2 = f 6 ∧ c 0 3 = f 7 ∧ c 0 4 = f 8 ∧ c 0 6 = f 10 ∧ c 0 8 = f 2 ∧ c 0 10 = f 21 ∧ c 0 12 = f 12 ∧ c 0 17 = f 31 ∧ c 0 25 = f 39) ∧
  (cW cn = (f 10).toNatClampNeg ∧ cT cn = (f 2).toNatClampNeg ∧ cP cn = (f 21).toNatClampNeg ∧ cW cn ≤ 4 ∧ cT cn ≤ 8 ∧ cP cn ≤ 5 ∧ ∀ p, p < cP cn → cS cn p = (g 22 (23 * p + 4)).toNatClampNeg ∧ cS cn p ≤ 3) ∧
  (∀ k, k < 2 + cW cn → ∀ s, s < 12 → c (40 + k) s = g 9 (12 * k + s)) ∧ (∀ k, k < cW cn → c (32 + k) 1 = g 11 k) ∧
  (∀ i, i < cT cn → c (50 + i) 0 = g 3 i ∧ c (50 + i) 1 = g 4 i ∧ c (50 + i) 2 = g 5 i) ∧
  (∀ p, p < cP cn → c (60 + 8 * p) 0 = g 22 (23 * p) ∧ c (60 + 8 * p) 1 = g 22 (23 * p + 1) ∧ c (60 + 8 * p) 2 = g 22 (23 * p + 2) ∧ c (60 + 8 * p) 3 = g 22 (23 * p + 3) ∧ c (60 + 8 * p) 5 = g 22 (23 * p + 4) ∧ ∀ j, j < cS cn p → ∀ k, k < (if j = 0 then 4 else 6) → c (63 + 8 * p + j) k = g 22 (23 * p + 5 + 6 * j + k)) ∧
  (∀ i, i < (f 12).toNatClampNeg → c 12 i = (g 13 i).toInt8.toInt32) ∧ (∀ l, l < 4 → c 13 l = g 37 l) ∧ ∀ l, l < 8 → c 14 l = g 38 l
/-- what a method may write without the relation's being touched -/
def scr (b k : Nat) : Prop := b = 1 ∨ b = 2 ∨ b = 3 ∨ (15 ≤ b ∧ b ≤ 29) ∨ (b = 0 ∧ (k = 14 ∨ k = 15 ∨ k = 20 ∨ k = 21 ∨ k = 22)) ∨ (60 ≤ b ∧ ((b - 60) % 8 = 2 ∨ ((b - 60) % 8 = 0 ∧ k = 7)))
def Sam (c c' : Tg) : Prop := ∀ b k, ¬ scr b k → c' b k = c b k
theorem Sam.rf (c : Tg) : Sam c c := fun _ _ _ => rfl
theorem Sam.tr {a b c : Tg} (h1 : Sam a b) (h2 : Sam b c) : Sam a c := fun x k h => (h2 x k h).trans (h1 x k h)
theorem Sam.up {c c' : Tg} (h : Sam c c') {b k : Nat} (hs : scr b k) (v : Int32) : Sam c (up2 c' b k v) := fun x j hx => by
  unfold up2
  rw [if_neg (fun z => hx (by rw [z.1, z.2]; exact hs))]
  exact h x j hx
theorem Rel.sam {cn : Cn} {c c' : Tg} {f : Tf} {g : Tg} (h : Rel cn c f g) (s : Sam c c') : Rel cn c' f g := by
  obtain ⟨⟨a1, a2, a3, a4, a5, a6, a7, a8, a9, a10, a11⟩, hc, h1, h2, h3, h4, h5, h6, h7⟩ := h
  have hc' := hc
  obtain ⟨-, -, -, hw4, ht8, -, hs3⟩ := hc'
  have z : ∀ k, ¬ (k = 14 ∨ k = 15 ∨ k = 20 ∨ k = 21 ∨ k = 22) → c' 0 k = c 0 k := fun k hk => s 0 k (by unfold scr; omega)
  refine ⟨⟨(z 0 (by decide)).trans a1, (z 1 (by decide)).trans a2, (z 2 (by decide)).trans a3, (z 3 (by decide)).trans a4, (z 4 (by decide)).trans a5, (z 6 (by decide)).trans a6, (z 8 (by decide)).trans a7, (z 10 (by decide)).trans a8, (z 12 (by decide)).trans a9, (z 17 (by decide)).trans a10, (z 25 (by decide)).trans a11⟩, hc, fun k hk x hx => ?_, fun k hk => ?_, fun i hi => ?_, fun p hp => ?_, fun i hi => (s 12 i (by unfold scr; omega)).trans (h5 i hi), fun l hl => (s 13 l (by unfold scr; omega)).trans (h6 l hl), fun l hl => (s 14 l (by unfold scr; omega)).trans (h7 l hl)⟩
  · exact (s _ _ (by unfold scr; omega)).trans (h1 k hk x hx)
  · exact (s _ _ (by unfold scr; omega)).trans (h2 k hk)
  · obtain ⟨b1, b2, b3⟩ := h3 i hi
    exact ⟨(s _ _ (by unfold scr; omega)).trans b1, (s _ _ (by unfold scr; omega)).trans b2, (s _ _ (by unfold scr; omega)).trans b3⟩
  · obtain ⟨b1, b2, b3, b4, b5, b6⟩ := h4 p hp
    exact ⟨(s _ _ (by unfold scr; omega)).trans b1, (s _ _ (by unfold scr; omega)).trans b2, (s _ _ (by unfold scr; omega)).trans b3, (s _ _ (by unfold scr; omega)).trans b4, (s _ _ (by unfold scr; omega)).trans b5, fun j hj k hk => (s _ _ (by have := (hs3 p hp).2; unfold scr; split at hk <;> omega)).trans (b6 j hj k hk)⟩
/-- placements put behind those that are there -/
def addL (c : Tg) (p : Nat) (L : List Nat) : Tg := fun b k => if b = 60 + 8 * p ∧ k = 7 then nI ((c (60 + 8 * p) 7).toNatClampNeg + L.length) else if b = 62 + 8 * p ∧ (c (60 + 8 * p) 7).toNatClampNeg ≤ k ∧ k < (c (60 + 8 * p) 7).toNatClampNeg + L.length then nI (L.getD (k - (c (60 + 8 * p) 7).toNatClampNeg) 0) else c b k
theorem addL_7 (c : Tg) (p : Nat) (L : List Nat) : addL c p L (60 + 8 * p) 7 = nI ((c (60 + 8 * p) 7).toNatClampNeg + L.length) := by simp [addL]
theorem addL_sam (c : Tg) (p : Nat) (L : List Nat) : Sam c (addL c p L) := fun b k h => by
  unfold addL
  rw [if_neg (fun z => h (by unfold scr; omega)), if_neg (fun z => h (by unfold scr; omega))]
theorem addL_0 (c : Tg) (p n : Nat) (h : c (60 + 8 * p) 7 = nI n) (hn : n < 1000) : addL c p [] = c := by
  funext b k
  unfold addL
  by_cases h1 : b = 60 + 8 * p ∧ k = 7
  · rw [if_pos h1, h1.1, h1.2, h, nc n]
    rfl
  · rw [if_neg h1, if_neg (by simp only [List.length_nil]; omega)]
theorem addL_o (c : Tg) (p : Nat) (L : List Nat) {b k : Nat} (h1 : ¬ (b = 60 + 8 * p ∧ k = 7)) : addL c p L b k = if b = 62 + 8 * p ∧ (c (60 + 8 * p) 7).toNatClampNeg ≤ k ∧ k < (c (60 + 8 * p) 7).toNatClampNeg + L.length then nI (L.getD (k - (c (60 + 8 * p) 7).toNatClampNeg) 0) else c b k := by
  unfold addL
  rw [if_neg h1]
theorem addL_add (c : Tg) (p n : Nat) (A B : List Nat) (h : c (60 + 8 * p) 7 = nI n) (hn : n + A.length + B.length < 1000) : addL (addL c p A) p B = addL c p (A ++ B) := by
  have e0 : addL c p A (60 + 8 * p) 7 = nI (n + A.length) := by rw [addL_7, h, nc n]
  funext b k
  by_cases h1 : b = 60 + 8 * p ∧ k = 7
  · rw [h1.1, h1.2, addL_7 (addL c p A) p B, e0, nc (n + A.length), addL_7 c p (A ++ B), h, nc n, List.length_append, Nat.add_assoc]
  · rw [addL_o (addL c p A) p B h1, e0, nc (n + A.length), addL_o c p (A ++ B) h1, addL_o c p A h1, h, nc n, List.length_append]
    by_cases hb : b = 62 + 8 * p
    · by_cases h2 : n + A.length ≤ k ∧ k < n + A.length + B.length
      · rw [if_pos ⟨hb, h2⟩, if_pos ⟨hb, by omega, by omega⟩]
        congr 1
        rw [List.getD_eq_getElem?_getD, List.getD_eq_getElem?_getD, List.getElem?_append_right (by omega)]
        congr 2
        omega
      · rw [if_neg (fun z => h2 z.2)]
        by_cases h3 : n ≤ k ∧ k < n + A.length
        · rw [if_pos ⟨hb, h3⟩, if_pos ⟨hb, by omega, by omega⟩]
          congr 1
          rw [List.getD_eq_getElem?_getD, List.getD_eq_getElem?_getD, List.getElem?_append_left (by omega)]
        · rw [if_neg (fun z => h3 z.2), if_neg (fun z => by omega)]
    · rw [if_neg (fun z => hb z.1), if_neg (fun z => hb z.1), if_neg (fun z => hb z.1)]
def comeC (c : Tg) (p : Nat) (x : Int32) : Tg := up2 (up2 c (62 + 8 * p) (c (60 + 8 * p) 7).toNatClampNeg x) (60 + 8 * p) 7 (c (60 + 8 * p) 7 + 1)
theorem comeC_n (c : Tg) (p n m : Nat) (h : c (60 + 8 * p) 7 = nI n) (hn : n < 1000) : comeC c p (nI m) = addL c p [m] := by
  unfold comeC
  rw [h, nc n]
  funext b k
  unfold addL up2
  rw [h, nc n]
  by_cases h1 : b = 60 + 8 * p ∧ k = 7
  · rw [if_pos h1, if_pos h1, nI_1]
    rfl
  · rw [if_neg h1, if_neg h1]
    by_cases h2 : b = 62 + 8 * p ∧ k = n
    · rw [if_pos h2, if_pos ⟨h2.1, by omega, by simp only [List.length_cons, List.length_nil]; omega⟩, show k - n = 0 by omega]
      rfl
    · rw [if_neg h2, if_neg (fun z => h2 ⟨z.1, by have := z.2.2; simp only [List.length_cons, List.length_nil] at this; omega⟩)]
theorem bits_mk : ∀ a, a < 12 → ∀ k, k < 5 → bitsI (nI a) (nI k) = nI (mkS a k) := by decide +kernel
theorem fitC_rel {cn : Cn} {c : Tg} {f : Tf} {g : Tg} (hR : Rel cn c f g) {p j s : Nat} (hp : p < cP cn) (hP : PP f g p) (hj : j < cS cn p) (hs : s < 12) : fitC c (63 + 8 * p + j) 0 (c (60 + 8 * p) 2).toNatClampNeg (nI s) = fitN f g p j s 0 := by
  obtain ⟨⟨-, a2, a3, a4, a5, -⟩, ⟨-, hcT, -, -, hT8, -⟩, h1, -, h3, h4, -⟩ := hR
  obtain ⟨-, -, b3, -, -, b6⟩ := h4 p hp
  obtain ⟨-, ⟨_, _, t, _, _, -, -, -, -, ht, ht2, -⟩, -⟩ := hP
  have etN : (c (60 + 8 * p) 2).toNatClampNeg = t := by rw [b3, ht]; exact nc t (by omega)
  obtain ⟨d1, d2, d3⟩ := h3 t (by omega)
  have hk : ∀ k, k < 4 → c (63 + 8 * p + j) k = stp g p j k := fun k hk => b6 j hj k (by split <;> omega)
  have e9 : (12 * nI 0 + nI s : Int32) = nI s := by
    rw [lm 12 0, nI_add]
    congr 1
    omega
  have htt : (nI t).toNatClampNeg = t := nc t (by omega)
  unfold fitN fitT fitC visC airC brC visT airT
  rw [etN, hk 1 (by decide), hk 2 (by decide), hk 3 (by decide), d1, d2, d3, a2, a3, a4, a5, ht, e9, nc s, htt, h1 0 (by omega) s hs]
  rw [show 12 * 0 + s = s by omega]
theorem fitsC_rel {cn : Cn} {c : Tg} {f : Tf} {g : Tg} (hR : Rel cn c f g) {p j : Nat} (a : Nat) (hp : p < cP cn) (hP : PP f g p) (hj : j < cS cn p) : fitsC c (63 + 8 * p + j) (c (60 + 8 * p) 2).toNatClampNeg a = okS f g p j a := by
  have hR' := hR
  obtain ⟨⟨a1, -⟩, -, -, -, -, h4, -⟩ := hR'
  obtain ⟨-, -, -, -, -, b6⟩ := h4 p hp
  have hk0 : c (63 + 8 * p + j) 0 = stp g p j 0 := b6 j hj 0 (by split <;> omega)
  obtain ⟨n, hn, hn4, hn12⟩ := hP.2.2.1
  have hnN : (f 0).toNatClampNeg = n := by rw [hn]; exact nc n
  unfold fitsC okS nN stN
  rw [hk0, a1, hnN]
  by_cases hle : a + (stp g p j 0).toNatClampNeg ≤ n
  · rw [decide_eq_true hle, Bool.true_and, Bool.true_and]
    apply Bool.eq_iff_iff.mpr
    rw [List.all_eq_true, List.all_eq_true]
    constructor
    · intro h i hi
      rw [← fitC_rel hR hp hP hj (by have := List.mem_range.mp hi; omega)]
      exact h i hi
    · intro h i hi
      rw [fitC_rel hR hp hP hj (by have := List.mem_range.mp hi; omega)]
      exact h i hi
  · rw [decide_eq_false hle, Bool.false_and, Bool.false_and]
/-- what a walk over plan p's placements needs -/
def LPl (cn : Cn) (c : Tg) (f : Tf) (g : Tg) (p : Nat) : Prop := Rel cn c f g ∧ PP f g p ∧ p < cP cn ∧ cT cn ≤ 8 ∧ cS cn p = stK g p
theorem LPl.sam {cn : Cn} {c c' : Tg} {f : Tf} {g : Tg} {p : Nat} (h : LPl cn c f g p) (s : Sam c c') : LPl cn c' f g p := ⟨h.1.sam s, h.2⟩
theorem LPl.of {cn : Cn} {c : Tg} {f : Tf} {g : Tg} {p : Nat} (hR : Rel cn c f g) (hM : MI f g) (hp : p < cP cn) : LPl cn c f g p := by
  obtain ⟨⟨n, hn⟩, -, ⟨t, ht, ht8, -⟩, -, -, ⟨q, hq, hq5, hpl⟩, -⟩ := hM
  have hR' := hR
  obtain ⟨-, ⟨-, hcT, hcP, -, -, -, hcS⟩, -⟩ := hR'
  rw [hq, nc q] at hcP
  rw [ht, nc t] at hcT
  exact ⟨hR, ⟨by omega, hpl p (by omega), ⟨n, hn⟩, ⟨t, ht, ht8⟩⟩, hp, by omega, (hcS p hp).1⟩
theorem LPl.tgt {cn : Cn} {c : Tg} {f : Tf} {g : Tg} {p : Nat} (h : LPl cn c f g p) : vp_in (c (60 + 8 * p) 2) 8 ∧ (c (60 + 8 * p) 2).toNatClampNeg < cT cn := by
  obtain ⟨⟨-, ⟨-, hcT, -⟩, -, -, -, h4, -⟩, hP, hp, h8, -⟩ := h
  obtain ⟨-, -, b3, -⟩ := h4 p hp
  rw [b3]
  refine ⟨hP.tg, ?_⟩
  obtain ⟨-, ⟨_, _, t, _, _, -, -, -, -, ht, ht2, -⟩, -⟩ := hP
  rw [ht, nc t (by omega), hcT]
  exact ht2
theorem LPl.look {cn : Cn} {c : Tg} {f : Tf} {g : Tg} {p : Nat} (h : LPl cn c f g p) {j : Nat} (hj : j < stK g p) : (∀ k, k < (if j = 0 then 4 else 6) → c (63 + 8 * p + j) k = stp g p j k) ∧ (c (63 + 8 * p + j) 3 = 0 ∨ c (63 + 8 * p + j) 3 = 1) ∧ c 0 0 = f 0 ∧ c (60 + 8 * p) 5 = g 22 (23 * p + 4) := by
  obtain ⟨⟨⟨a1, -⟩, -, -, -, -, h4, -⟩, hP, hp, h8, hS⟩ := h
  obtain ⟨-, -, -, -, b5, b6⟩ := h4 p hp
  rw [hS] at b6
  refine ⟨b6 j hj, ?_, a1, b5⟩
  obtain ⟨s, hs, -, hs3, hst⟩ := hP.st
  have hsK : stK g p = s := by unfold stK; rw [hs]; exact nc s
  obtain ⟨_, _, _, d, -, -, -, -, -, -, -, hd, hd1, -⟩ := hst j (by omega)
  rw [b6 j hj 3 (by split <;> omega), hd]
  rcases (show d = 0 ∨ d = 1 by omega) with z | z <;> subst z
  · exact Or.inl rfl
  · exact Or.inr rfl
abbrev MX11_of : Mi := (yX11_of, cX11_of, 1, some (.object "SharedNights$Target"), { frames := 0, cells := 0, slots := 0, locals := 0 })
theorem nmX11_of : Nm yX11_of 0 := ⟨by decide +kernel, by decide +kernel, by decide +kernel⟩
theorem vcX11_of_0 {G : Gl} {ad : Nat → Nat} {cn : Cn} {h0 : Hp} {Q : Option Value → Tg → Prop} (g : Tg)  (P : Nat) (hP1 : P < cP cn) (hv : (vp_in (g (60 + 8 * P) 2) 8) ∧ ((g (60 + 8 * P) 2).toNatClampNeg < cT cn) ∧ Q (some (.ref (ad (50 + ((g (60 + 8 * P) 2).toNatClampNeg))))) g) :
    AWC G ad cn h0 MX11_of Q g 0 [(0, .ref (ad (60 + 8 * P)))] [] := by
  refine AWC_aload_n (pc := 0) dX11_of_0 rfl 0 rfl ?_
  refine AWC_getR (pc := 1) (60 + 8 * P) 8 (0) (kB_plan hP1) (rB_pf 8) clX11 (by decide) rfl (FL.o q494) dX11_of_1 ?_
  refine AWC_getR (pc := 4) (0) 7 (8) rfl rfl clX0 (by decide) rfl (FL.n q266) dX11_of_4 ?_
  refine AWC_aload_n (pc := 7) dX11_of_7 rfl 0 rfl ?_
  refine AWC_getI (pc := 8) (60 + 8 * P) 2 (kB_plan hP1) clX11 (by decide) rfl (FL.o q474) dX11_of_8 ?_
  have h_1 := hv.1
  have hv := hv.2
  have h_2 := hv.1
  have hv := hv.2
  refine AWC_aald (pc := 11) (b := 8) (b' := 50 + ((g (60 + 8 * P) 2).toNatClampNeg)) (t := 4) (n := 8) rfl (rB_tgt h_2) (by decide) (by decide) dX11_of_11 h_1 ?_
  exact AWC_aret (pc := 12) rfl (Or.inl ⟨_, rfl⟩) dX11_of_12 hv
theorem mcX11_of {G : Gl} {ad : Nat → Nat} (cn : Cn) (g : Tg)  (P : Nat) (hP1 : P < cP cn) (h1 : vp_in (g (60 + 8 * P) 2) 8) (h2 : (g (60 + 8 * P) 2).toNatClampNeg < cT cn) : MCC G ad cn MX11_of [.ref (ad (60 + 8 * P))] g (fun v0 g1 => v0 = some (.ref (ad (50 + ((g (60 + 8 * P) 2).toNatClampNeg)))) ∧ g = g1) := by
  refine MCC.of ⟨rfl, rfl⟩ (by decide) (Nat.le_of_ble_eq_true rfl) rfl (fun h0 => vcX11_of_0 g  P hP1 ?_)
  exact ⟨h1, h2, rfl, rfl⟩
abbrev MX11_later : Mi := (yX11_later, cX11_later, 2, some (.object "SharedNights$Later"), { frames := 0, cells := 0, slots := 0, locals := 0 })
theorem nmX11_later : Nm yX11_later 1 := ⟨by decide +kernel, by decide +kernel, by decide +kernel⟩
theorem vcX11_later_0 {G : Gl} {ad : Nat → Nat} {cn : Cn} {h0 : Hp} {Q : Option Value → Tg → Prop} (g : Tg)  (P : Nat) (j : Int32) (hP1 : P < cP cn) (hv : (vp_in j 3) ∧ (j.toNatClampNeg < cS cn P) ∧ (¬ j.toNatClampNeg = 0) ∧ Q (some (.ref (ad (63 + 8 * P + j.toNatClampNeg)))) g) :
    AWC G ad cn h0 MX11_later Q g 0 [(0, .ref (ad (60 + 8 * P))), (1, .int j)] [] := by
  refine AWC_aload_n (pc := 0) dX11_later_0 rfl 0 rfl ?_
  refine AWC_getR (pc := 1) (60 + 8 * P) 4 (61 + 8 * P) (kB_plan hP1) (rB_pf 4) clX11 (by decide) rfl (FL.o q482) dX11_later_1 ?_
  refine AWC_iload_n (pc := 4) dX11_later_4 rfl 1 rfl ?_
  have h_1 := hv.1
  have hv := hv.2
  have h_2 := hv.1
  have hv := hv.2
  refine AWC_aald (pc := 5) (b := 61 + 8 * P) (b' := 63 + 8 * P + j.toNatClampNeg) (t := 7) (n := 3) (kB_steps hP1) (rB_look h_2) (by decide) (by decide) dX11_later_5 h_1 ?_
  have h_3 := hv.1
  have hv := hv.2
  refine AWC_castS (pc := 6) (b := 63 + 8 * P + j.toNatClampNeg) clX14 q817 (kB_later hP1 h_2 (vp_lt h_1) h_3) dX11_later_6 ?_
  exact AWC_aret (pc := 9) rfl (Or.inl ⟨_, rfl⟩) dX11_later_9 hv
theorem mcX11_later {G : Gl} {ad : Nat → Nat} (cn : Cn) (g : Tg)  (P : Nat) (j : Int32) (hP1 : P < cP cn) (h1 : vp_in j 3) (h2 : j.toNatClampNeg < cS cn P) (h3 : ¬ j.toNatClampNeg = 0) : MCC G ad cn MX11_later [.ref (ad (60 + 8 * P)), .int j] g (fun v0 g1 => v0 = some (.ref (ad (63 + 8 * P + j.toNatClampNeg))) ∧ g = g1) := by
  refine MCC.of ⟨rfl, rfl⟩ (by decide) (Nat.le_of_ble_eq_true rfl) rfl (fun h0 => vcX11_later_0 g  P j hP1 ?_)
  exact ⟨h1, h2, h3, rfl, rfl⟩
abbrev MX11_come : Mi := (yX11_come, cX11_come, 2, none, { frames := 0, cells := 0, slots := 0, locals := 0 })
theorem nmX11_come : Nm yX11_come 1 := ⟨by decide +kernel, by decide +kernel, by decide +kernel⟩
theorem vcX11_come_0 {G : Gl} {ad : Nat → Nat} {cn : Cn} {h0 : Hp} {Q : Option Value → Tg → Prop} (g : Tg)  (P : Nat) (x : Int32) (hP1 : P < cP cn) (hv : (vp_in (g (60 + 8 * P) 7) 200) ∧ Q none (up2 (up2 g (62 + 8 * P) (g (60 + 8 * P) 7).toNatClampNeg x) (60 + 8 * P) 7 (((up2 g (62 + 8 * P) (g (60 + 8 * P) 7).toNatClampNeg x) (60 + 8 * P) 7) + 1))) :
    AWC G ad cn h0 MX11_come Q g 0 [(0, .ref (ad (60 + 8 * P))), (1, .int x)] [] := by
  refine AWC_aload_n (pc := 0) dX11_come_0 rfl 0 rfl ?_
  refine AWC_getR (pc := 1) (60 + 8 * P) 6 (62 + 8 * P) (kB_plan hP1) (rB_pf 6) clX11 (by decide) rfl (FL.o q488) dX11_come_1 ?_
  refine AWC_aload_n (pc := 4) dX11_come_4 rfl 0 rfl ?_
  refine AWC_getI (pc := 5) (60 + 8 * P) 7 (kB_plan hP1) clX11 (by decide) rfl (FL.o q491) dX11_come_5 ?_
  refine AWC_iload_n (pc := 8) dX11_come_8 rfl 1 rfl ?_
  have h_1 := hv.1
  have hv := hv.2
  refine AWC_iast (pc := 9) (b := 62 + 8 * P) (n := 200) (kB_places hP1) dX11_come_9 h_1 ?_
  refine AWC_aload_n (pc := 10) dX11_come_10 rfl 0 rfl ?_
  refine AWC_dup (pc := 11) dX11_come_11 rfl ?_
  refine AWC_getI (pc := 12) (60 + 8 * P) 7 (kB_plan hP1) clX11 (by decide) rfl (FL.o q491) dX11_come_12 ?_
  refine AWC_iconst (pc := 15) (v := 1) dX11_come_15 (by decide) ?_
  refine AWC_iadd (pc := 16) dX11_come_16 ?_
  refine AWC_putI (pc := 17) (60 + 8 * P) 7 (kB_plan hP1) clX11 (by decide) rfl (FL.o q491) rfl dX11_come_17 ?_
  exact AWC_vret (pc := 20) rfl dX11_come_20 hv
theorem mcX11_come {G : Gl} {ad : Nat → Nat} (cn : Cn) (g : Tg)  (P : Nat) (x : Int32) (hP1 : P < cP cn) (h1 : vp_in (g (60 + 8 * P) 7) 200) : MCC G ad cn MX11_come [.ref (ad (60 + 8 * P)), .int x] g (fun v0 g1 => v0 = none ∧ comeC g P x = g1) := by
  refine MCC.of ⟨rfl, rfl⟩ (by decide) (Nat.le_of_ble_eq_true rfl) rfl (fun h0 => vcX11_come_0 g  P x hP1 ?_)
  refine ⟨h1, rfl, ?_⟩
  unfold comeC
  rw [up2_n _ _ _ _ (show 60 + 8 * P ≠ 62 + 8 * P by omega)]
def t3 (f : Tf) (g : Tg) (p m e : Nat) : List Nat := if stK g p = 2 then [m] else fl (c3 f g p m e) (stN g p 2 5 + 1 - stN g p 2 4)
abbrev MX11_layThird : Mi := (yX11_layThird, cX11_layThird, 4, none, { frames := 5, cells := 0, slots := 0, locals := 112 })
theorem nmX11_layThird : Nm yX11_layThird 2 := ⟨by decide +kernel, by decide +kernel, by decide +kernel⟩
theorem vcX11_layThird_0 {G : Gl} {ad : Nat → Nat} {cn : Cn} {h0 : Hp} {Q : Option Value → Tg → Prop} (g : Tg) (f : Tf) (gt : Tg) (P : Nat) (x : Int32) (e : Int32) (hP1 : P < cP cn) (hv : ((¬ (g (60 + 8 * P) 5) = 2 → (2 < cS cn P) ∧ (¬ 2 = 0) ∧ AWC G ad cn h0 MX11_layThird Q g 25 [(0, .ref (ad (60 + 8 * P))), (1, .int x), (2, .int e), (3, .int (e + (g (63 + 8 * P + 2) 4)))] []) ∧ ((g (60 + 8 * P) 5) = 2 → (vp_in (g (60 + 8 * P) 7) 200) ∧ Q none (comeC g P x)))) :
    AWC G ad cn h0 MX11_layThird Q g 0 [(0, .ref (ad (60 + 8 * P))), (1, .int x), (2, .int e)] [] := by
  refine AWC_aload_n (pc := 0) dX11_layThird_0 rfl 0 rfl ?_
  refine AWC_getI (pc := 1) (60 + 8 * P) 5 (kB_plan hP1) clX11 (by decide) rfl (FL.o q485) dX11_layThird_1 ?_
  refine AWC_iconst (pc := 4) (v := 2) dX11_layThird_4 (by decide) ?_
  refine AWC_icmp_ne (pc := 5) (tgt := 14) dX11_layThird_5 (by decide) (fun c1 => ?_) (fun c1 => ?_)
  · have hv := hv.1 c1
    refine AWC_iload_n (pc := 14) dX11_layThird_14 rfl 2 rfl ?_
    refine AWC_aload_n (pc := 15) dX11_layThird_15 rfl 0 rfl ?_
    refine AWC_iconst (pc := 16) (v := 2) dX11_layThird_16 (by decide) ?_
    have h_2 := hv.1
    have hv := hv.2
    have h_3 := hv.1
    have hv := hv.2
    refine AWC_callV (M' := MX11_later) (pc := 17) (a := 60 + 8 * P) [.int 2] [.int e] clX11 (kB_plan hP1) rfl nmX11_later ⟨rfl, rfl⟩ (ML.o q813) q815 qs19 q86 q816 dX11_layThird_17 rfl rfl (Nat.le_of_ble_eq_true rfl) ⟨Nat.le_of_ble_eq_true rfl, Nat.le_of_ble_eq_true rfl⟩ (mcX11_later cn g  P 2 hP1 (pk_in 2 3 (by decide)) h_2 h_3) ?_
    rintro _ _ ⟨rfl, rfl⟩
    refine AWC_getI (pc := 20) (63 + 8 * P + 2) 4 (kB_later hP1 h_2 (by decide) h_3) clX14 (by decide) rfl (FL.n q719) dX11_layThird_20 ?_
    refine AWC_iadd (pc := 23) dX11_layThird_23 ?_
    refine AWC_istore_n (pc := 24) (lv' := [(3, .int (e + (g (63 + 8 * P + 2) 4))), (0, .ref (ad (60 + 8 * P))), (1, .int x), (2, .int e)]) dX11_layThird_24 rfl (by decide) rfl ?_
    refine AWC_lv (lv' := [(0, .ref (ad (60 + 8 * P))), (1, .int x), (2, .int e), (3, .int (e + (g (63 + 8 * P + 2) 4)))]) [1, 2, 3, 0] rfl ?_
    exact hv
  · have hv := hv.2 c1
    refine AWC_aload_n (pc := 8) dX11_layThird_8 rfl 0 rfl ?_
    refine AWC_iload_n (pc := 9) dX11_layThird_9 rfl 1 rfl ?_
    have h_4 := hv.1
    have hv := hv.2
    refine AWC_callV (M' := MX11_come) (pc := 10) (a := 60 + 8 * P) [.int x] [] clX11 (kB_plan hP1) rfl nmX11_come ⟨rfl, rfl⟩ (ML.o q809) q811 qs18 q86 q812 dX11_layThird_10 rfl rfl (Nat.le_of_ble_eq_true rfl) ⟨Nat.le_of_ble_eq_true rfl, Nat.le_of_ble_eq_true rfl⟩ (mcX11_come cn g  P x hP1 h_4) ?_
    rintro _ _ ⟨rfl, rfl⟩
    exact AWC_vret (pc := 13) rfl dX11_layThird_13 hv
theorem vcX11_layThird_25 {G : Gl} {ad : Nat → Nat} {cn : Cn} {h0 : Hp} {Q : Option Value → Tg → Prop} (g : Tg) (f : Tf) (gt : Tg) (P : Nat) (x : Int32) (e : Int32) (c : Int32) (hP1 : P < cP cn) (hv : (2 < cS cn P) ∧ (¬ 2 = 0) ∧ (((e + (g (63 + 8 * P + 2) 5)) < c → Q none g) ∧ (¬ (e + (g (63 + 8 * P + 2) 5)) < c → (2 < cS cn P) ∧ (vp_in (g (60 + 8 * P) 2) 8) ∧ ((g (60 + 8 * P) 2).toNatClampNeg < cT cn) ∧ (∃ A k n : Nat, c = nI A ∧ A < 1000 ∧ g (63 + 8 * P + 2) 0 = nI k ∧ k ≤ 4 ∧ g 0 0 = nI n ∧ n ≤ 12) ∧ (g (63 + 8 * P + 2) 3 = 0 ∨ g (63 + 8 * P + 2) 3 = 1) ∧ (((fitsC g (63 + 8 * P + 2) ((g (60 + 8 * P) 2).toNatClampNeg) c.toNatClampNeg) = false → AWC G ad cn h0 MX11_layThird Q g 25 [(0, .ref (ad (60 + 8 * P))), (1, .int x), (2, .int e), (3, .int (c + 1))] []) ∧ ((fitsC g (63 + 8 * P + 2) ((g (60 + 8 * P) 2).toNatClampNeg) c.toNatClampNeg) = true → (2 < cS cn P) ∧ (vp_in (g (60 + 8 * P) 7) 200) ∧ AWC G ad cn h0 MX11_layThird Q (comeC g P (x ||| (bitsI c (g (63 + 8 * P + 2) 0)))) 25 [(0, .ref (ad (60 + 8 * P))), (1, .int x), (2, .int e), (3, .int (c + 1))] []))))) :
    AWC G ad cn h0 MX11_layThird Q g 25 [(0, .ref (ad (60 + 8 * P))), (1, .int x), (2, .int e), (3, .int c)] [] := by
  refine AWC_iload_n (pc := 25) dX11_layThird_25 rfl 3 rfl ?_
  refine AWC_iload_n (pc := 26) dX11_layThird_26 rfl 2 rfl ?_
  refine AWC_aload_n (pc := 27) dX11_layThird_27 rfl 0 rfl ?_
  refine AWC_iconst (pc := 28) (v := 2) dX11_layThird_28 (by decide) ?_
  have h_1 := hv.1
  have hv := hv.2
  have h_2 := hv.1
  have hv := hv.2
  refine AWC_callV (M' := MX11_later) (pc := 29) (a := 60 + 8 * P) [.int 2] [.int e, .int c] clX11 (kB_plan hP1) rfl nmX11_later ⟨rfl, rfl⟩ (ML.o q813) q815 qs19 q86 q816 dX11_layThird_29 rfl rfl (Nat.le_of_ble_eq_true rfl) ⟨Nat.le_of_ble_eq_true rfl, Nat.le_of_ble_eq_true rfl⟩ (mcX11_later cn g  P 2 hP1 (pk_in 2 3 (by decide)) h_1 h_2) ?_
  rintro _ _ ⟨rfl, rfl⟩
  refine AWC_getI (pc := 32) (63 + 8 * P + 2) 5 (kB_later hP1 h_1 (by decide) h_2) clX14 (by decide) rfl (FL.n q722) dX11_layThird_32 ?_
  refine AWC_iadd (pc := 35) dX11_layThird_35 ?_
  refine AWC_icmp_gt (pc := 36) (tgt := 85) dX11_layThird_36 (by decide) (fun c3 => ?_) (fun c3 => ?_)
  · have hv := hv.1 c3
    exact AWC_vret (pc := 85) rfl dX11_layThird_85 hv
  · have hv := hv.2 c3
    refine AWC_aload_n (pc := 39) dX11_layThird_39 rfl 0 rfl ?_
    refine AWC_getR (pc := 40) (60 + 8 * P) 8 (0) (kB_plan hP1) (rB_pf 8) clX11 (by decide) rfl (FL.o q494) dX11_layThird_40 ?_
    refine AWC_aload_n (pc := 43) dX11_layThird_43 rfl 0 rfl ?_
    refine AWC_getR (pc := 44) (60 + 8 * P) 4 (61 + 8 * P) (kB_plan hP1) (rB_pf 4) clX11 (by decide) rfl (FL.o q482) dX11_layThird_44 ?_
    refine AWC_iconst (pc := 47) (v := 2) dX11_layThird_47 (by decide) ?_
    have h_4 := hv.1
    have hv := hv.2
    refine AWC_aald (pc := 48) (b := 61 + 8 * P) (b' := 63 + 8 * P + 2) (t := 7) (n := 3) (kB_steps hP1) (rB_look h_4) (by decide) (by decide) dX11_layThird_48 (pk_in 2 3 (by decide)) ?_
    refine AWC_aload_n (pc := 49) dX11_layThird_49 rfl 0 rfl ?_
    have h_5 := hv.1
    have hv := hv.2
    have h_6 := hv.1
    have hv := hv.2
    refine AWC_callV (M' := MX11_of) (pc := 50) (a := 60 + 8 * P) [] [.ref (ad (63 + 8 * P + 2)), .ref (ad 0)] clX11 (kB_plan hP1) rfl nmX11_of ⟨rfl, rfl⟩ (ML.o q785) q786 q787 q86 q788 dX11_layThird_50 rfl rfl (Nat.le_of_ble_eq_true rfl) ⟨Nat.le_of_ble_eq_true rfl, Nat.le_of_ble_eq_true rfl⟩ (mcX11_of cn g  P hP1 h_5 h_6) ?_
    rintro _ _ ⟨rfl, rfl⟩
    refine AWC_iload_n (pc := 53) dX11_layThird_53 rfl 3 rfl ?_
    have h_7 := hv.1
    have hv := hv.2
    have h_8 := hv.1
    have hv := hv.2
    refine AWC_callV (M' := MX0_fits) (pc := 54) (a := 0) [.ref (ad (63 + 8 * P + 2)), .ref (ad (50 + ((g (60 + 8 * P) 2).toNatClampNeg))), .int c] [] clX0 rfl rfl nmX0_fits ⟨rfl, rfl⟩ (ML.n q789) q791 qs17 q73 q792 dX11_layThird_54 rfl rfl (Nat.le_of_ble_eq_true rfl) ⟨Nat.le_of_ble_eq_true rfl, Nat.le_of_ble_eq_true rfl⟩ (mcX0_fits cn g  (63 + 8 * P + 2) ((g (60 + 8 * P) 2).toNatClampNeg) c (isLk_st hP1 h_4 (by decide)) h_6 (vp_lt10 h_5 (by decide)) h_7 h_8) ?_
    rintro _ _ ⟨rfl, rfl⟩
    refine AWC_ifb_eq (pc := 57) (tgt := 79) dX11_layThird_57 (by decide) (fun c9 => ?_) (fun c9 => ?_)
    · have hv := hv.1 c9
      refine AWC_iinc (pc := 79) (v := c + 1) (lv' := [(3, .int (c + 1)), (0, .ref (ad (60 + 8 * P))), (1, .int x), (2, .int e)]) dX11_layThird_79 3 rfl rfl (by decide) rfl ?_
      refine AWC_goto (pc := 82) (tgt := 25) dX11_layThird_82 (by decide) ?_
      refine AWC_lv (lv' := [(0, .ref (ad (60 + 8 * P))), (1, .int x), (2, .int e), (3, .int (c + 1))]) [1, 2, 3, 0] rfl ?_
      exact hv
    · have hv := hv.2 c9
      refine AWC_aload_n (pc := 60) dX11_layThird_60 rfl 0 rfl ?_
      refine AWC_iload_n (pc := 61) dX11_layThird_61 rfl 1 rfl ?_
      refine AWC_iload_n (pc := 62) dX11_layThird_62 rfl 3 rfl ?_
      refine AWC_aload_n (pc := 63) dX11_layThird_63 rfl 0 rfl ?_
      refine AWC_getR (pc := 64) (60 + 8 * P) 4 (61 + 8 * P) (kB_plan hP1) (rB_pf 4) clX11 (by decide) rfl (FL.o q482) dX11_layThird_64 ?_
      refine AWC_iconst (pc := 67) (v := 2) dX11_layThird_67 (by decide) ?_
      have h_10 := hv.1
      have hv := hv.2
      refine AWC_aald (pc := 68) (b := 61 + 8 * P) (b' := 63 + 8 * P + 2) (t := 7) (n := 3) (kB_steps hP1) (rB_look h_10) (by decide) (by decide) dX11_layThird_68 (pk_in 2 3 (by decide)) ?_
      refine AWC_getLk (pc := 69) (63 + 8 * P + 2) 0 (isLk_st hP1 h_10 (by decide)) (by decide) rfl rfl (FL.o q691) (FL.o q691) dX11_layThird_69 ?_
      refine AWC_callS (M' := MX0_bitsOf) (pc := 72) [.int c, .int (g (63 + 8 * P + 2) 0)] [.int x, .ref (ad (60 + 8 * P))] nmX0_bitsOf ⟨rfl, rfl⟩ (ML.n q806) q807 q73 q808 dX11_layThird_72 rfl rfl (Nat.le_of_ble_eq_true rfl) ⟨Nat.le_of_ble_eq_true rfl, Nat.le_of_ble_eq_true rfl⟩ (mcX0_bitsOf cn g  c (g (63 + 8 * P + 2) 0) ) ?_
      rintro _ _ ⟨rfl, rfl⟩
      refine AWC_ior (pc := 75) dX11_layThird_75 ?_
      have h_11 := hv.1
      have hv := hv.2
      refine AWC_callV (M' := MX11_come) (pc := 76) (a := 60 + 8 * P) [.int (x ||| (bitsI c (g (63 + 8 * P + 2) 0)))] [] clX11 (kB_plan hP1) rfl nmX11_come ⟨rfl, rfl⟩ (ML.o q809) q811 qs18 q86 q812 dX11_layThird_76 rfl rfl (Nat.le_of_ble_eq_true rfl) ⟨Nat.le_of_ble_eq_true rfl, Nat.le_of_ble_eq_true rfl⟩ (mcX11_come cn g  P (x ||| (bitsI c (g (63 + 8 * P + 2) 0))) hP1 h_11) ?_
      rintro _ _ ⟨rfl, rfl⟩
      refine AWC_iinc (pc := 79) (v := c + 1) (lv' := [(3, .int (c + 1)), (0, .ref (ad (60 + 8 * P))), (1, .int x), (2, .int e)]) dX11_layThird_79 3 rfl rfl (by decide) rfl ?_
      refine AWC_goto (pc := 82) (tgt := 25) dX11_layThird_82 (by decide) ?_
      refine AWC_lv (lv' := [(0, .ref (ad (60 + 8 * P))), (1, .int x), (2, .int e), (3, .int (c + 1))]) [1, 2, 3, 0] rfl ?_
      exact hv
/-- the third step's loop -/
theorem cp25 {G : Gl} {ad : Nat → Nat} {cn : Cn} {h0 : Hp} {Q : Option Value → Tg → Prop} {f : Tf} {g c : Tg} {P m E n : Nat} (hP1 : P < cP cn) (hL : LPl cn c f g P) (hs : stK g P = 3) (hE : E < 80) (hn : c (60 + 8 * P) 7 = nI n) (hn4 : n + 4 < 200) (k : Q none (addL c P (fl (c3 f g P m E) (stN g P 2 5 + 1 - stN g P 2 4)))) :
    AWC G ad cn h0 MX11_layThird Q c 25 [(0, .ref (ad (60 + 8 * P))), (1, .int (nI m)), (2, .int (nI E)), (3, .int (nI (E + stN g P 2 4)))] [] := by
  obtain ⟨nn, s, hn0, hn4', hn12, hnN, hsv, hsK, hs1, hs3, hst, hk, hl⟩ := hL.2.1.nums
  have hs' : s = 3 := by omega
  subst hs'
  obtain ⟨l, mo, e4, e4', hl6, e5, e5', hlm, hml⟩ := hl 2 (by omega) (by omega)
  obtain ⟨k2, ek, ek', hk1, hk4⟩ := hk 2 (by omega)
  have hcS := hL.2.2.2.2
  have h2S : 2 < cS cn P := by omega
  rw [e4', e5'] at k
  rw [e4']
  have base : AWC G ad cn h0 MX11_layThird Q (addL c P (fl (c3 f g P m E) 0)) 25 [(0, .ref (ad (60 + 8 * P))), (1, .int (nI m)), (2, .int (nI E)), (3, .int (nI (E + l + 0)))] [] := by
    refine loopUp (A := fun i => AWC G ad cn h0 MX11_layThird Q (addL c P (fl (c3 f g P m E) i)) 25 [(0, .ref (ad (60 + 8 * P))), (1, .int (nI m)), (2, .int (nI E)), (3, .int (nI (E + l + i)))] []) (mo + 1 - l) ?_ ?_ 0 (by omega)
    · have hL' := hL.sam (addL_sam c P (fl (c3 f g P m E) (mo + 1 - l)))
      have hlk := hL'.look (j := 2) (by omega)
      refine vcX11_layThird_25 _ f g P _ _ _ hP1 ⟨h2S, by decide, ?_⟩
      rw [hlk.1 5 (by decide), e5, nI_add]
      exact pk_lt (E + mo) (E + l + (mo + 1 - l)) (fun _ => k) (fun z => by omega)
    · intro i hi ih
      have hlen := fl_len (F := c3 f g P m E) (c := 1) i (fun i _ => c3_len f g P _ _ i)
      have hL' := hL.sam (addL_sam c P (fl (c3 f g P m E) i))
      have hlk := hL'.look (j := 2) (by omega)
      have hcnt : addL c P (fl (c3 f g P m E) i) (60 + 8 * P) 7 = nI (n + (fl (c3 f g P m E) i).length) := by rw [addL_7, hn, nc n]
      refine vcX11_layThird_25 _ f g P _ _ _ hP1 ⟨h2S, by decide, ?_⟩
      rw [hlk.1 5 (by decide), e5, nI_add]
      refine pk_lt (E + mo) (E + l + i) (fun z => by omega) (fun _ => ⟨h2S, hL'.tgt.1, hL'.tgt.2, ⟨E + l + i, k2, nn, rfl, by omega, by rw [hlk.1 0 (by decide), ek], hk4, by rw [hlk.2.2.1, hn0], hn12⟩, hlk.2.1, ?_⟩)
      rw [nc (E + l + i), fitsC_rel hL'.1 (E + l + i) hP1 hL'.2.1 h2S]
      refine ⟨fun cc => ?_, fun cc => ⟨h2S, by rw [hcnt]; exact vp_in_nI (by omega) (by decide), ?_⟩⟩
      · have e9 : fl (c3 f g P m E) (i + 1) = fl (c3 f g P m E) i := by
          rw [fl_s]
          unfold c3
          rw [e4', cc]
          simp
        rw [nI_1, ← e9]
        exact ih
      · have hle := okS_lt cc hnN ek'
        rw [hlk.1 0 (by decide), ek, bits_mk _ (by omega) _ (by omega), nx_or, comeC_n _ _ _ _ hcnt (by omega), addL_add c P n _ _ hn (by simp only [List.length_cons, List.length_nil]; omega), nI_1]
        have e9 : fl (c3 f g P m E) i ++ [m ||| mkS (E + l + i) k2] = fl (c3 f g P m E) (i + 1) := by
          rw [fl_s]
          unfold c3
          rw [e4', if_pos cc, ek']
        rw [e9]
        exact ih
  rw [fl_0, addL_0 c P n hn (by omega)] at base
  exact base
theorem mcX11_layThird {G : Gl} {ad : Nat → Nat} (cn : Cn) (g : Tg) (f : Tf) (gt : Tg) (P : Nat) (x : Int32) (e : Int32) (hP1 : P < cP cn) (h1 : LPl cn g f gt P) (h2 : 2 ≤ stK gt P) (h3 : ∃ m E n : Nat, x = nI m ∧ m < 65536 ∧ e = nI E ∧ E < 80 ∧ g (60 + 8 * P) 7 = nI n ∧ n + 4 < 200) : MCC G ad cn MX11_layThird [.ref (ad (60 + 8 * P)), .int x, .int e] g (fun v0 g1 => v0 = none ∧ addL g P (t3 f gt P x.toNatClampNeg e.toNatClampNeg) = g1) := by
  refine MCC.of ⟨rfl, rfl⟩ (by decide) (Nat.le_of_ble_eq_true rfl) rfl (fun h0 => vcX11_layThird_0 g f gt P x e hP1 ?_)
  obtain ⟨m, E, n, rfl, hm, rfl, hE, hn, hn4⟩ := h3
  have hlk := h1.look (j := 1) (by omega)
  have hcS := h1.2.2.2.2
  obtain ⟨nn, s, hn0, hn4', hn12, hnN, hsv, hsK, hs1, hs3, hst, hk, hl⟩ := h1.2.1.nums
  rw [hlk.2.2.2, hsv]
  rcases (show s = 2 ∨ s = 3 by omega) with z | z
  · subst z
    refine ⟨fun z => absurd rfl z, fun _ => ⟨by rw [hn]; exact vp_in_nI (by omega) (by decide), rfl, ?_⟩⟩
    have e1 : t3 f gt P (nI m).toNatClampNeg (nI E).toNatClampNeg = [(nI m).toNatClampNeg] := by
      unfold t3
      rw [if_pos hsK]
    rw [e1, nc m (by omega), comeC_n _ _ _ _ hn (by omega)]
  · subst z
    refine ⟨fun _ => ⟨by omega, by decide, ?_⟩, fun z => absurd z (by decide)⟩
    have hlk2 := h1.look (j := 2) (by omega)
    obtain ⟨l, mo, e4, e4', hl6, e5, e5', hlm, hml⟩ := hl 2 (by omega) (by omega)
    rw [hlk2.1 4 (by decide), e4, nI_add, ← e4']
    refine cp25 hP1 h1 hsK hE hn hn4 ⟨rfl, ?_⟩
    have e1 : t3 f gt P (nI m).toNatClampNeg (nI E).toNatClampNeg = fl (c3 f gt P m E) (stN gt P 2 5 + 1 - stN gt P 2 4) := by
      unfold t3
      rw [if_neg (by omega), nc m (by omega), nc E]
    rw [e1]
abbrev MX11_layPlaces : Mi := (yX11_layPlaces, cX11_layPlaces, 5, none, { frames := 6, cells := 0, slots := 0, locals := 135 })
theorem nmX11_layPlaces : Nm yX11_layPlaces 0 := ⟨by decide +kernel, by decide +kernel, by decide +kernel⟩
theorem vcX11_layPlaces_0 {G : Gl} {ad : Nat → Nat} {cn : Cn} {h0 : Hp} {Q : Option Value → Tg → Prop} (g : Tg) (f : Tf) (gt : Tg) (P : Nat) (hP1 : P < cP cn) (hv : AWC G ad cn h0 MX11_layPlaces Q (up2 g (60 + 8 * P) 7 0) 7 [(0, .ref (ad (60 + 8 * P))), (1, .int 0)] []) :
    AWC G ad cn h0 MX11_layPlaces Q g 0 [(0, .ref (ad (60 + 8 * P)))] [] := by
  refine AWC_aload_n (pc := 0) dX11_layPlaces_0 rfl 0 rfl ?_
  refine AWC_iconst (pc := 1) (v := 0) dX11_layPlaces_1 (by decide) ?_
  refine AWC_putI (pc := 2) (60 + 8 * P) 7 (kB_plan hP1) clX11 (by decide) rfl (FL.o q491) rfl dX11_layPlaces_2 ?_
  refine AWC_iconst (pc := 5) (v := 0) dX11_layPlaces_5 (by decide) ?_
  refine AWC_istore_n (pc := 6) (lv' := [(1, .int 0), (0, .ref (ad (60 + 8 * P)))]) dX11_layPlaces_6 rfl (by decide) rfl ?_
  refine AWC_lv (lv' := [(0, .ref (ad (60 + 8 * P))), (1, .int 0)]) [1, 0] rfl ?_
  exact hv
theorem vcX11_layPlaces_7 {G : Gl} {ad : Nat → Nat} {cn : Cn} {h0 : Hp} {Q : Option Value → Tg → Prop} (g : Tg) (f : Tf) (gt : Tg) (P : Nat) (a : Int32) (hP1 : P < cP cn) (hv : (((g 0 0) ≤ a → Q none g) ∧ (¬ (g 0 0) ≤ a → (0 < cS cn P) ∧ (vp_in (g (60 + 8 * P) 2) 8) ∧ ((g (60 + 8 * P) 2).toNatClampNeg < cT cn) ∧ (∃ A k n : Nat, a = nI A ∧ A < 1000 ∧ g (63 + 8 * P + 0) 0 = nI k ∧ k ≤ 4 ∧ g 0 0 = nI n ∧ n ≤ 12) ∧ (g (63 + 8 * P + 0) 3 = 0 ∨ g (63 + 8 * P + 0) 3 = 1) ∧ (((fitsC g (63 + 8 * P + 0) ((g (60 + 8 * P) 2).toNatClampNeg) a.toNatClampNeg) = true → (0 < cS cn P) ∧ ((¬ (g (60 + 8 * P) 5) = 1 → (0 < cS cn P) ∧ (1 < cS cn P) ∧ (¬ 1 = 0) ∧ AWC G ad cn h0 MX11_layPlaces Q g 96 [(0, .ref (ad (60 + 8 * P))), (1, .int a), (2, .int (bitsI a (g (63 + 8 * P + 0) 0))), (3, .int (a + (g (63 + 8 * P + 0) 0))), (4, .int ((a + (g (63 + 8 * P + 0) 0)) + (g (63 + 8 * P + 1) 4)))] []) ∧ ((g (60 + 8 * P) 5) = 1 → (vp_in (g (60 + 8 * P) 7) 200) ∧ AWC G ad cn h0 MX11_layPlaces Q (comeC g P (bitsI a (g (63 + 8 * P + 0) 0))) 7 [(0, .ref (ad (60 + 8 * P))), (1, .int (a + 1))] []))) ∧ ((fitsC g (63 + 8 * P + 0) ((g (60 + 8 * P) 2).toNatClampNeg) a.toNatClampNeg) = false → AWC G ad cn h0 MX11_layPlaces Q g 7 [(0, .ref (ad (60 + 8 * P))), (1, .int (a + 1))] []))))) :
    AWC G ad cn h0 MX11_layPlaces Q g 7 [(0, .ref (ad (60 + 8 * P))), (1, .int a)] [] := by
  refine AWC_iload_n (pc := 7) dX11_layPlaces_7 rfl 1 rfl ?_
  refine AWC_aload_n (pc := 8) dX11_layPlaces_8 rfl 0 rfl ?_
  refine AWC_getR (pc := 9) (60 + 8 * P) 8 (0) (kB_plan hP1) (rB_pf 8) clX11 (by decide) rfl (FL.o q494) dX11_layPlaces_9 ?_
  refine AWC_getI (pc := 12) (0) 0 rfl clX0 (by decide) rfl (FL.n q252) dX11_layPlaces_12 ?_
  refine AWC_icmp_ge (pc := 15) (tgt := 177) dX11_layPlaces_15 (by decide) (fun c1 => ?_) (fun c1 => ?_)
  · have hv := hv.1 c1
    exact AWC_vret (pc := 177) rfl dX11_layPlaces_177 hv
  · have hv := hv.2 c1
    refine AWC_aload_n (pc := 18) dX11_layPlaces_18 rfl 0 rfl ?_
    refine AWC_getR (pc := 19) (60 + 8 * P) 8 (0) (kB_plan hP1) (rB_pf 8) clX11 (by decide) rfl (FL.o q494) dX11_layPlaces_19 ?_
    refine AWC_aload_n (pc := 22) dX11_layPlaces_22 rfl 0 rfl ?_
    refine AWC_getR (pc := 23) (60 + 8 * P) 4 (61 + 8 * P) (kB_plan hP1) (rB_pf 4) clX11 (by decide) rfl (FL.o q482) dX11_layPlaces_23 ?_
    refine AWC_iconst (pc := 26) (v := 0) dX11_layPlaces_26 (by decide) ?_
    have h_2 := hv.1
    have hv := hv.2
    refine AWC_aald (pc := 27) (b := 61 + 8 * P) (b' := 63 + 8 * P + 0) (t := 7) (n := 3) (kB_steps hP1) (rB_look h_2) (by decide) (by decide) dX11_layPlaces_27 (pk_in 0 3 (by decide)) ?_
    refine AWC_aload_n (pc := 28) dX11_layPlaces_28 rfl 0 rfl ?_
    have h_3 := hv.1
    have hv := hv.2
    have h_4 := hv.1
    have hv := hv.2
    refine AWC_callV (M' := MX11_of) (pc := 29) (a := 60 + 8 * P) [] [.ref (ad (63 + 8 * P + 0)), .ref (ad 0)] clX11 (kB_plan hP1) rfl nmX11_of ⟨rfl, rfl⟩ (ML.o q785) q786 q787 q86 q788 dX11_layPlaces_29 rfl rfl (Nat.le_of_ble_eq_true rfl) ⟨Nat.le_of_ble_eq_true rfl, Nat.le_of_ble_eq_true rfl⟩ (mcX11_of cn g  P hP1 h_3 h_4) ?_
    rintro _ _ ⟨rfl, rfl⟩
    refine AWC_iload_n (pc := 32) dX11_layPlaces_32 rfl 1 rfl ?_
    have h_5 := hv.1
    have hv := hv.2
    have h_6 := hv.1
    have hv := hv.2
    refine AWC_callV (M' := MX0_fits) (pc := 33) (a := 0) [.ref (ad (63 + 8 * P + 0)), .ref (ad (50 + ((g (60 + 8 * P) 2).toNatClampNeg))), .int a] [] clX0 rfl rfl nmX0_fits ⟨rfl, rfl⟩ (ML.n q789) q791 qs17 q73 q792 dX11_layPlaces_33 rfl rfl (Nat.le_of_ble_eq_true rfl) ⟨Nat.le_of_ble_eq_true rfl, Nat.le_of_ble_eq_true rfl⟩ (mcX0_fits cn g  (63 + 8 * P + 0) ((g (60 + 8 * P) 2).toNatClampNeg) a (isLk_st hP1 h_2 (by decide)) h_4 (vp_lt10 h_3 (by decide)) h_5 h_6) ?_
    rintro _ _ ⟨rfl, rfl⟩
    refine AWC_ifb_ne (pc := 36) (tgt := 42) dX11_layPlaces_36 (by decide) (fun c7 => ?_) (fun c7 => ?_)
    · have hv := hv.1 c7
      refine AWC_iload_n (pc := 42) dX11_layPlaces_42 rfl 1 rfl ?_
      refine AWC_aload_n (pc := 43) dX11_layPlaces_43 rfl 0 rfl ?_
      refine AWC_getR (pc := 44) (60 + 8 * P) 4 (61 + 8 * P) (kB_plan hP1) (rB_pf 4) clX11 (by decide) rfl (FL.o q482) dX11_layPlaces_44 ?_
      refine AWC_iconst (pc := 47) (v := 0) dX11_layPlaces_47 (by decide) ?_
      have h_8 := hv.1
      have hv := hv.2
      refine AWC_aald (pc := 48) (b := 61 + 8 * P) (b' := 63 + 8 * P + 0) (t := 7) (n := 3) (kB_steps hP1) (rB_look h_8) (by decide) (by decide) dX11_layPlaces_48 (pk_in 0 3 (by decide)) ?_
      refine AWC_getLk (pc := 49) (63 + 8 * P + 0) 0 (isLk_st hP1 h_8 (by decide)) (by decide) rfl rfl (FL.o q691) (FL.o q691) dX11_layPlaces_49 ?_
      refine AWC_callS (M' := MX0_bitsOf) (pc := 52) [.int a, .int (g (63 + 8 * P + 0) 0)] [] nmX0_bitsOf ⟨rfl, rfl⟩ (ML.n q806) q807 q73 q808 dX11_layPlaces_52 rfl rfl (Nat.le_of_ble_eq_true rfl) ⟨Nat.le_of_ble_eq_true rfl, Nat.le_of_ble_eq_true rfl⟩ (mcX0_bitsOf cn g  a (g (63 + 8 * P + 0) 0) ) ?_
      rintro _ _ ⟨rfl, rfl⟩
      refine AWC_istore_n (pc := 55) (lv' := [(2, .int (bitsI a (g (63 + 8 * P + 0) 0))), (0, .ref (ad (60 + 8 * P))), (1, .int a)]) dX11_layPlaces_55 rfl (by decide) rfl ?_
      refine AWC_aload_n (pc := 56) dX11_layPlaces_56 rfl 1 rfl ?_
      refine AWC_getI (pc := 57) (60 + 8 * P) 5 (kB_plan hP1) clX11 (by decide) rfl (FL.o q485) dX11_layPlaces_57 ?_
      refine AWC_iconst (pc := 60) (v := 1) dX11_layPlaces_60 (by decide) ?_
      refine AWC_icmp_ne (pc := 61) (tgt := 72) dX11_layPlaces_61 (by decide) (fun c9 => ?_) (fun c9 => ?_)
      · have hv := hv.1 c9
        refine AWC_iload_n (pc := 72) dX11_layPlaces_72 rfl 2 rfl ?_
        refine AWC_aload_n (pc := 73) dX11_layPlaces_73 rfl 1 rfl ?_
        refine AWC_getR (pc := 74) (60 + 8 * P) 4 (61 + 8 * P) (kB_plan hP1) (rB_pf 4) clX11 (by decide) rfl (FL.o q482) dX11_layPlaces_74 ?_
        refine AWC_iconst (pc := 77) (v := 0) dX11_layPlaces_77 (by decide) ?_
        have h_10 := hv.1
        have hv := hv.2
        refine AWC_aald (pc := 78) (b := 61 + 8 * P) (b' := 63 + 8 * P + 0) (t := 7) (n := 3) (kB_steps hP1) (rB_look h_10) (by decide) (by decide) dX11_layPlaces_78 (pk_in 0 3 (by decide)) ?_
        refine AWC_getLk (pc := 79) (63 + 8 * P + 0) 0 (isLk_st hP1 h_10 (by decide)) (by decide) rfl rfl (FL.o q691) (FL.o q691) dX11_layPlaces_79 ?_
        refine AWC_iadd (pc := 82) dX11_layPlaces_82 ?_
        refine AWC_istore_n (pc := 83) (lv' := [(3, .int (a + (g (63 + 8 * P + 0) 0))), (2, .int (bitsI a (g (63 + 8 * P + 0) 0))), (0, .ref (ad (60 + 8 * P))), (1, .int a)]) dX11_layPlaces_83 rfl (by decide) rfl ?_
        refine AWC_iload_n (pc := 84) dX11_layPlaces_84 rfl 0 rfl ?_
        refine AWC_aload_n (pc := 85) dX11_layPlaces_85 rfl 2 rfl ?_
        refine AWC_iconst (pc := 86) (v := 1) dX11_layPlaces_86 (by decide) ?_
        have h_11 := hv.1
        have hv := hv.2
        have h_12 := hv.1
        have hv := hv.2
        refine AWC_callV (M' := MX11_later) (pc := 87) (a := 60 + 8 * P) [.int 1] [.int (a + (g (63 + 8 * P + 0) 0))] clX11 (kB_plan hP1) rfl nmX11_later ⟨rfl, rfl⟩ (ML.o q813) q815 qs19 q86 q816 dX11_layPlaces_87 rfl rfl (Nat.le_of_ble_eq_true rfl) ⟨Nat.le_of_ble_eq_true rfl, Nat.le_of_ble_eq_true rfl⟩ (mcX11_later cn g  P 1 hP1 (pk_in 1 3 (by decide)) h_11 h_12) ?_
        rintro _ _ ⟨rfl, rfl⟩
        refine AWC_getI (pc := 90) (63 + 8 * P + 1) 4 (kB_later hP1 h_11 (by decide) h_12) clX14 (by decide) rfl (FL.n q719) dX11_layPlaces_90 ?_
        refine AWC_iadd (pc := 93) dX11_layPlaces_93 ?_
        refine AWC_istore (pc := 94) (lv' := [(4, .int ((a + (g (63 + 8 * P + 0) 0)) + (g (63 + 8 * P + 1) 4))), (3, .int (a + (g (63 + 8 * P + 0) 0))), (2, .int (bitsI a (g (63 + 8 * P + 0) 0))), (0, .ref (ad (60 + 8 * P))), (1, .int a)]) dX11_layPlaces_94 (by decide) rfl ?_
        refine AWC_lv (lv' := [(0, .ref (ad (60 + 8 * P))), (1, .int a), (2, .int (bitsI a (g (63 + 8 * P + 0) 0))), (3, .int (a + (g (63 + 8 * P + 0) 0))), (4, .int ((a + (g (63 + 8 * P + 0) 0)) + (g (63 + 8 * P + 1) 4)))]) [3, 4, 2, 1, 0] rfl ?_
        exact hv
      · have hv := hv.2 c9
        refine AWC_aload_n (pc := 64) dX11_layPlaces_64 rfl 1 rfl ?_
        refine AWC_iload_n (pc := 65) dX11_layPlaces_65 rfl 0 rfl ?_
        have h_13 := hv.1
        have hv := hv.2
        refine AWC_callV (M' := MX11_come) (pc := 66) (a := 60 + 8 * P) [.int (bitsI a (g (63 + 8 * P + 0) 0))] [] clX11 (kB_plan hP1) rfl nmX11_come ⟨rfl, rfl⟩ (ML.o q809) q811 qs18 q86 q812 dX11_layPlaces_66 rfl rfl (Nat.le_of_ble_eq_true rfl) ⟨Nat.le_of_ble_eq_true rfl, Nat.le_of_ble_eq_true rfl⟩ (mcX11_come cn g  P (bitsI a (g (63 + 8 * P + 0) 0)) hP1 h_13) ?_
        rintro _ _ ⟨rfl, rfl⟩
        refine AWC_goto (pc := 69) (tgt := 171) dX11_layPlaces_69 (by decide) ?_
        refine AWC_iinc (pc := 171) (v := a + 1) (lv' := [(1, .int (a + 1)), (2, .int (bitsI a (g (63 + 8 * P + 0) 0))), (0, .ref (ad (60 + 8 * P)))]) dX11_layPlaces_171 2 rfl rfl (by decide) rfl ?_
        refine AWC_goto (pc := 174) (tgt := 7) dX11_layPlaces_174 (by decide) ?_
        refine AWC_lv (lv' := [(0, .ref (ad (60 + 8 * P))), (1, .int (a + 1))]) [2, 0] rfl ?_
        exact hv
    · have hv := hv.2 c7
      refine AWC_goto (pc := 39) (tgt := 171) dX11_layPlaces_39 (by decide) ?_
      refine AWC_iinc (pc := 171) (v := a + 1) (lv' := [(1, .int (a + 1)), (0, .ref (ad (60 + 8 * P)))]) dX11_layPlaces_171 1 rfl rfl (by decide) rfl ?_
      refine AWC_goto (pc := 174) (tgt := 7) dX11_layPlaces_174 (by decide) ?_
      refine AWC_lv (lv' := [(0, .ref (ad (60 + 8 * P))), (1, .int (a + 1))]) [1, 0] rfl ?_
      exact hv
theorem vcX11_layPlaces_96 {G : Gl} {ad : Nat → Nat} {cn : Cn} {h0 : Hp} {Q : Option Value → Tg → Prop} (g : Tg) (f : Tf) (gt : Tg) (P : Nat) (a : Int32) (x : Int32) (ea : Int32) (b : Int32) (hP1 : P < cP cn) (hv : (1 < cS cn P) ∧ (¬ 1 = 0) ∧ (((ea + (g (63 + 8 * P + 1) 5)) < b → AWC G ad cn h0 MX11_layPlaces Q g 7 [(0, .ref (ad (60 + 8 * P))), (1, .int (a + 1))] []) ∧ (¬ (ea + (g (63 + 8 * P + 1) 5)) < b → (1 < cS cn P) ∧ (vp_in (g (60 + 8 * P) 2) 8) ∧ ((g (60 + 8 * P) 2).toNatClampNeg < cT cn) ∧ (∃ A k n : Nat, b = nI A ∧ A < 1000 ∧ g (63 + 8 * P + 1) 0 = nI k ∧ k ≤ 4 ∧ g 0 0 = nI n ∧ n ≤ 12) ∧ (g (63 + 8 * P + 1) 3 = 0 ∨ g (63 + 8 * P + 1) 3 = 1) ∧ (((fitsC g (63 + 8 * P + 1) ((g (60 + 8 * P) 2).toNatClampNeg) b.toNatClampNeg) = false → AWC G ad cn h0 MX11_layPlaces Q g 96 [(0, .ref (ad (60 + 8 * P))), (1, .int a), (2, .int x), (3, .int ea), (4, .int (b + 1))] []) ∧ ((fitsC g (63 + 8 * P + 1) ((g (60 + 8 * P) 2).toNatClampNeg) b.toNatClampNeg) = true → (1 < cS cn P) ∧ (1 < cS cn P) ∧ (LPl cn g f gt P) ∧ (2 ≤ stK gt P) ∧ (∃ m E n : Nat, (x ||| (bitsI b (g (63 + 8 * P + 1) 0))) = nI m ∧ m < 65536 ∧ (b + (g (63 + 8 * P + 1) 0)) = nI E ∧ E < 80 ∧ g (60 + 8 * P) 7 = nI n ∧ n + 4 < 200) ∧ AWC G ad cn h0 MX11_layPlaces Q (addL g P (t3 f gt P (x ||| (bitsI b (g (63 + 8 * P + 1) 0))).toNatClampNeg (b + (g (63 + 8 * P + 1) 0)).toNatClampNeg)) 96 [(0, .ref (ad (60 + 8 * P))), (1, .int a), (2, .int x), (3, .int ea), (4, .int (b + 1))] []))))) :
    AWC G ad cn h0 MX11_layPlaces Q g 96 [(0, .ref (ad (60 + 8 * P))), (1, .int a), (2, .int x), (3, .int ea), (4, .int b)] [] := by
  refine AWC_iload (pc := 96) dX11_layPlaces_96 4 rfl ?_
  refine AWC_iload_n (pc := 98) dX11_layPlaces_98 rfl 3 rfl ?_
  refine AWC_aload_n (pc := 99) dX11_layPlaces_99 rfl 0 rfl ?_
  refine AWC_iconst (pc := 100) (v := 1) dX11_layPlaces_100 (by decide) ?_
  have h_1 := hv.1
  have hv := hv.2
  have h_2 := hv.1
  have hv := hv.2
  refine AWC_callV (M' := MX11_later) (pc := 101) (a := 60 + 8 * P) [.int 1] [.int ea, .int b] clX11 (kB_plan hP1) rfl nmX11_later ⟨rfl, rfl⟩ (ML.o q813) q815 qs19 q86 q816 dX11_layPlaces_101 rfl rfl (Nat.le_of_ble_eq_true rfl) ⟨Nat.le_of_ble_eq_true rfl, Nat.le_of_ble_eq_true rfl⟩ (mcX11_later cn g  P 1 hP1 (pk_in 1 3 (by decide)) h_1 h_2) ?_
  rintro _ _ ⟨rfl, rfl⟩
  refine AWC_getI (pc := 104) (63 + 8 * P + 1) 5 (kB_later hP1 h_1 (by decide) h_2) clX14 (by decide) rfl (FL.n q722) dX11_layPlaces_104 ?_
  refine AWC_iadd (pc := 107) dX11_layPlaces_107 ?_
  refine AWC_icmp_gt (pc := 108) (tgt := 171) dX11_layPlaces_108 (by decide) (fun c3 => ?_) (fun c3 => ?_)
  · have hv := hv.1 c3
    refine AWC_iinc (pc := 171) (v := a + 1) (lv' := [(1, .int (a + 1)), (0, .ref (ad (60 + 8 * P))), (2, .int x), (3, .int ea), (4, .int b)]) dX11_layPlaces_171 1 rfl rfl (by decide) rfl ?_
    refine AWC_goto (pc := 174) (tgt := 7) dX11_layPlaces_174 (by decide) ?_
    refine AWC_lv (lv' := [(0, .ref (ad (60 + 8 * P))), (1, .int (a + 1))]) [1, 0] rfl ?_
    exact hv
  · have hv := hv.2 c3
    refine AWC_aload_n (pc := 111) dX11_layPlaces_111 rfl 0 rfl ?_
    refine AWC_getR (pc := 112) (60 + 8 * P) 8 (0) (kB_plan hP1) (rB_pf 8) clX11 (by decide) rfl (FL.o q494) dX11_layPlaces_112 ?_
    refine AWC_aload_n (pc := 115) dX11_layPlaces_115 rfl 0 rfl ?_
    refine AWC_getR (pc := 116) (60 + 8 * P) 4 (61 + 8 * P) (kB_plan hP1) (rB_pf 4) clX11 (by decide) rfl (FL.o q482) dX11_layPlaces_116 ?_
    refine AWC_iconst (pc := 119) (v := 1) dX11_layPlaces_119 (by decide) ?_
    have h_4 := hv.1
    have hv := hv.2
    refine AWC_aald (pc := 120) (b := 61 + 8 * P) (b' := 63 + 8 * P + 1) (t := 7) (n := 3) (kB_steps hP1) (rB_look h_4) (by decide) (by decide) dX11_layPlaces_120 (pk_in 1 3 (by decide)) ?_
    refine AWC_aload_n (pc := 121) dX11_layPlaces_121 rfl 0 rfl ?_
    have h_5 := hv.1
    have hv := hv.2
    have h_6 := hv.1
    have hv := hv.2
    refine AWC_callV (M' := MX11_of) (pc := 122) (a := 60 + 8 * P) [] [.ref (ad (63 + 8 * P + 1)), .ref (ad 0)] clX11 (kB_plan hP1) rfl nmX11_of ⟨rfl, rfl⟩ (ML.o q785) q786 q787 q86 q788 dX11_layPlaces_122 rfl rfl (Nat.le_of_ble_eq_true rfl) ⟨Nat.le_of_ble_eq_true rfl, Nat.le_of_ble_eq_true rfl⟩ (mcX11_of cn g  P hP1 h_5 h_6) ?_
    rintro _ _ ⟨rfl, rfl⟩
    refine AWC_iload (pc := 125) dX11_layPlaces_125 4 rfl ?_
    have h_7 := hv.1
    have hv := hv.2
    have h_8 := hv.1
    have hv := hv.2
    refine AWC_callV (M' := MX0_fits) (pc := 127) (a := 0) [.ref (ad (63 + 8 * P + 1)), .ref (ad (50 + ((g (60 + 8 * P) 2).toNatClampNeg))), .int b] [] clX0 rfl rfl nmX0_fits ⟨rfl, rfl⟩ (ML.n q789) q791 qs17 q73 q792 dX11_layPlaces_127 rfl rfl (Nat.le_of_ble_eq_true rfl) ⟨Nat.le_of_ble_eq_true rfl, Nat.le_of_ble_eq_true rfl⟩ (mcX0_fits cn g  (63 + 8 * P + 1) ((g (60 + 8 * P) 2).toNatClampNeg) b (isLk_st hP1 h_4 (by decide)) h_6 (vp_lt10 h_5 (by decide)) h_7 h_8) ?_
    rintro _ _ ⟨rfl, rfl⟩
    refine AWC_ifb_eq (pc := 130) (tgt := 165) dX11_layPlaces_130 (by decide) (fun c9 => ?_) (fun c9 => ?_)
    · have hv := hv.1 c9
      refine AWC_iinc (pc := 165) (v := b + 1) (lv' := [(4, .int (b + 1)), (0, .ref (ad (60 + 8 * P))), (1, .int a), (2, .int x), (3, .int ea)]) dX11_layPlaces_165 4 rfl rfl (by decide) rfl ?_
      refine AWC_goto (pc := 168) (tgt := 96) dX11_layPlaces_168 (by decide) ?_
      refine AWC_lv (lv' := [(0, .ref (ad (60 + 8 * P))), (1, .int a), (2, .int x), (3, .int ea), (4, .int (b + 1))]) [1, 2, 3, 4, 0] rfl ?_
      exact hv
    · have hv := hv.2 c9
      refine AWC_aload_n (pc := 133) dX11_layPlaces_133 rfl 0 rfl ?_
      refine AWC_iload_n (pc := 134) dX11_layPlaces_134 rfl 2 rfl ?_
      refine AWC_iload (pc := 135) dX11_layPlaces_135 4 rfl ?_
      refine AWC_aload_n (pc := 137) dX11_layPlaces_137 rfl 0 rfl ?_
      refine AWC_getR (pc := 138) (60 + 8 * P) 4 (61 + 8 * P) (kB_plan hP1) (rB_pf 4) clX11 (by decide) rfl (FL.o q482) dX11_layPlaces_138 ?_
      refine AWC_iconst (pc := 141) (v := 1) dX11_layPlaces_141 (by decide) ?_
      have h_10 := hv.1
      have hv := hv.2
      refine AWC_aald (pc := 142) (b := 61 + 8 * P) (b' := 63 + 8 * P + 1) (t := 7) (n := 3) (kB_steps hP1) (rB_look h_10) (by decide) (by decide) dX11_layPlaces_142 (pk_in 1 3 (by decide)) ?_
      refine AWC_getLk (pc := 143) (63 + 8 * P + 1) 0 (isLk_st hP1 h_10 (by decide)) (by decide) rfl rfl (FL.o q691) (FL.o q691) dX11_layPlaces_143 ?_
      refine AWC_callS (M' := MX0_bitsOf) (pc := 146) [.int b, .int (g (63 + 8 * P + 1) 0)] [.int x, .ref (ad (60 + 8 * P))] nmX0_bitsOf ⟨rfl, rfl⟩ (ML.n q806) q807 q73 q808 dX11_layPlaces_146 rfl rfl (Nat.le_of_ble_eq_true rfl) ⟨Nat.le_of_ble_eq_true rfl, Nat.le_of_ble_eq_true rfl⟩ (mcX0_bitsOf cn g  b (g (63 + 8 * P + 1) 0) ) ?_
      rintro _ _ ⟨rfl, rfl⟩
      refine AWC_ior (pc := 149) dX11_layPlaces_149 ?_
      refine AWC_iload (pc := 150) dX11_layPlaces_150 4 rfl ?_
      refine AWC_aload_n (pc := 152) dX11_layPlaces_152 rfl 0 rfl ?_
      refine AWC_getR (pc := 153) (60 + 8 * P) 4 (61 + 8 * P) (kB_plan hP1) (rB_pf 4) clX11 (by decide) rfl (FL.o q482) dX11_layPlaces_153 ?_
      refine AWC_iconst (pc := 156) (v := 1) dX11_layPlaces_156 (by decide) ?_
      have h_11 := hv.1
      have hv := hv.2
      refine AWC_aald (pc := 157) (b := 61 + 8 * P) (b' := 63 + 8 * P + 1) (t := 7) (n := 3) (kB_steps hP1) (rB_look h_11) (by decide) (by decide) dX11_layPlaces_157 (pk_in 1 3 (by decide)) ?_
      refine AWC_getLk (pc := 158) (63 + 8 * P + 1) 0 (isLk_st hP1 h_11 (by decide)) (by decide) rfl rfl (FL.o q691) (FL.o q691) dX11_layPlaces_158 ?_
      refine AWC_iadd (pc := 161) dX11_layPlaces_161 ?_
      have h_12 := hv.1
      have hv := hv.2
      have h_13 := hv.1
      have hv := hv.2
      have h_14 := hv.1
      have hv := hv.2
      refine AWC_callV (M' := MX11_layThird) (pc := 162) (a := 60 + 8 * P) [.int (x ||| (bitsI b (g (63 + 8 * P + 1) 0))), .int (b + (g (63 + 8 * P + 1) 0))] [] clX11 (kB_plan hP1) rfl nmX11_layThird ⟨rfl, rfl⟩ (ML.o q818) q820 qs20 q86 q821 dX11_layPlaces_162 rfl rfl (Nat.le_of_ble_eq_true rfl) ⟨Nat.le_of_ble_eq_true rfl, Nat.le_of_ble_eq_true rfl⟩ (mcX11_layThird cn g f gt P (x ||| (bitsI b (g (63 + 8 * P + 1) 0))) (b + (g (63 + 8 * P + 1) 0)) hP1 h_12 h_13 h_14) ?_
      rintro _ _ ⟨rfl, rfl⟩
      refine AWC_iinc (pc := 165) (v := b + 1) (lv' := [(4, .int (b + 1)), (0, .ref (ad (60 + 8 * P))), (1, .int a), (2, .int x), (3, .int ea)]) dX11_layPlaces_165 4 rfl rfl (by decide) rfl ?_
      refine AWC_goto (pc := 168) (tgt := 96) dX11_layPlaces_168 (by decide) ?_
      refine AWC_lv (lv' := [(0, .ref (ad (60 + 8 * P))), (1, .int a), (2, .int x), (3, .int ea), (4, .int (b + 1))]) [1, 2, 3, 4, 0] rfl ?_
      exact hv
theorem c2_t3 {f : Tf} {g : Tg} {p m e i l k : Nat} (hl : stN g p 1 4 = l) (hk : stN g p 1 0 = k) (h : okS f g p 1 (e + l + i) = true) : c2 f g p m e i = t3 f g p (m ||| mkS (e + l + i) k) (e + l + i + k) := by
  unfold c2 t3
  rw [hl, hk, if_pos h]
theorem t3_len {f : Tf} {g : Tg} {p m e : Nat} (h : stN g p 2 5 + 1 - stN g p 2 4 ≤ 4 ∨ stK g p = 2) : (t3 f g p m e).length ≤ 4 := by
  unfold t3
  split
  · simp
  · rename_i h2
    have := fl_len (F := c3 f g p m e) (c := 1) (stN g p 2 5 + 1 - stN g p 2 4) (fun i _ => c3_len f g p _ _ i)
    rcases h with h | h
    · omega
    · exact absurd h h2
theorem or_lt {a b : Nat} (ha : a < 65536) (hb : b < 65536) : a ||| b < 65536 := Nat.or_lt_two_pow (n := 16) ha hb
/-- the second step's loop -/
theorem cp96 {G : Gl} {ad : Nat → Nat} {cn : Cn} {h0 : Hp} {Q : Option Value → Tg → Prop} {f : Tf} {g c : Tg} {P a m E n : Nat} (hP1 : P < cP cn) (hL : LPl cn c f g P) (hs : 2 ≤ stK g P) (hE : E < 40) (hm : m < 65536) (hn : c (60 + 8 * P) 7 = nI n) (hn4 : n + 20 < 200) (k : AWC G ad cn h0 MX11_layPlaces Q (addL c P (fl (c2 f g P m E) (stN g P 1 5 + 1 - stN g P 1 4))) 7 [(0, .ref (ad (60 + 8 * P))), (1, .int (nI (a + 1)))] []) :
    AWC G ad cn h0 MX11_layPlaces Q c 96 [(0, .ref (ad (60 + 8 * P))), (1, .int (nI a)), (2, .int (nI m)), (3, .int (nI E)), (4, .int (nI (E + stN g P 1 4)))] [] := by
  obtain ⟨nn, s, hn0, hn4', hn12, hnN, hsv, hsK, hs1, hs3, hst, hk, hl⟩ := hL.2.1.nums
  obtain ⟨l, mo, e4, e4', hl6, e5, e5', hlm, hml⟩ := hl 1 (by omega) (by omega)
  obtain ⟨k2, ek, ek', hk1, hk4⟩ := hk 1 (by omega)
  have hc2 : stN g P 2 5 + 1 - stN g P 2 4 ≤ 4 ∨ stK g P = 2 := by
    rcases (show s = 2 ∨ s = 3 by omega) with z | z
    · right; omega
    · left
      obtain ⟨l2, m2, -, z4, -, -, z5, z6, z7⟩ := hl 2 (by omega) (by omega)
      omega
  have hcS := hL.2.2.2.2
  have h1S : 1 < cS cn P := by omega
  rw [e4', e5'] at k
  rw [e4']
  have base : AWC G ad cn h0 MX11_layPlaces Q (addL c P (fl (c2 f g P m E) 0)) 96 [(0, .ref (ad (60 + 8 * P))), (1, .int (nI a)), (2, .int (nI m)), (3, .int (nI E)), (4, .int (nI (E + l + 0)))] [] := by
    refine loopUp (A := fun i => AWC G ad cn h0 MX11_layPlaces Q (addL c P (fl (c2 f g P m E) i)) 96 [(0, .ref (ad (60 + 8 * P))), (1, .int (nI a)), (2, .int (nI m)), (3, .int (nI E)), (4, .int (nI (E + l + i)))] []) (mo + 1 - l) ?_ ?_ 0 (by omega)
    · have hL' := hL.sam (addL_sam c P (fl (c2 f g P m E) (mo + 1 - l)))
      have hlk := hL'.look (j := 1) (by omega)
      refine vcX11_layPlaces_96 _ f g P _ _ _ _ hP1 ⟨h1S, by decide, ?_⟩
      rw [hlk.1 5 (by decide), e5, nI_add]
      refine pk_lt (E + mo) (E + l + (mo + 1 - l)) (fun _ => ?_) (fun z => by omega)
      rw [nI_1]
      exact k
    · intro i hi ih
      have hlen := fl_len (F := c2 f g P m E) (c := 4) i (fun i _ => c2_len f g P _ _ i hc2)
      have hL' := hL.sam (addL_sam c P (fl (c2 f g P m E) i))
      have hlk := hL'.look (j := 1) (by omega)
      have hcnt : addL c P (fl (c2 f g P m E) i) (60 + 8 * P) 7 = nI (n + (fl (c2 f g P m E) i).length) := by rw [addL_7, hn, nc n]
      refine vcX11_layPlaces_96 _ f g P _ _ _ _ hP1 ⟨h1S, by decide, ?_⟩
      rw [hlk.1 5 (by decide), e5, nI_add]
      refine pk_lt (E + mo) (E + l + i) (fun z => by omega) (fun _ => ⟨h1S, hL'.tgt.1, hL'.tgt.2, ⟨E + l + i, k2, nn, rfl, by omega, by rw [hlk.1 0 (by decide), ek], hk4, by rw [hlk.2.2.1, hn0], hn12⟩, hlk.2.1, ?_⟩)
      rw [nc (E + l + i), fitsC_rel hL'.1 (E + l + i) hP1 hL'.2.1 h1S]
      refine ⟨fun cc => ?_, fun cc => ?_⟩
      · have e9 : fl (c2 f g P m E) (i + 1) = fl (c2 f g P m E) i := by
          rw [fl_s]
          unfold c2
          rw [e4', cc]
          simp
        rw [nI_1, ← e9]
        exact ih
      · have hle := okS_lt cc hnN ek'
        have hmk : mkS (E + l + i) k2 < 65536 := (mkS_n0 _ (by omega) _ (by omega) (by omega)).2
        rw [hlk.1 0 (by decide), ek, bits_mk _ (by omega) _ (by omega), nx_or, nI_add]
        refine ⟨h1S, h1S, hL', hs, ⟨_, _, _, rfl, or_lt hm hmk, rfl, by omega, hcnt, by omega⟩, ?_⟩
        have ht3 := t3_len (f := f) (g := g) (p := P) (m := m ||| mkS (E + l + i) k2) (e := E + l + i + k2) hc2
        rw [nc (m ||| mkS (E + l + i) k2) (by have := or_lt hm hmk; omega), nc (E + l + i + k2), addL_add c P n _ _ hn (by omega), nI_1]
        have e9 : fl (c2 f g P m E) i ++ t3 f g P (m ||| mkS (E + l + i) k2) (E + l + i + k2) = fl (c2 f g P m E) (i + 1) := by
          rw [fl_s, c2_t3 e4' ek' cc]
        rw [e9]
        exact ih
  rw [fl_0, addL_0 c P n hn (by omega)] at base
  exact base
theorem mcX11_layPlaces {G : Gl} {ad : Nat → Nat} (cn : Cn) (g : Tg) (f : Tf) (gt : Tg) (P : Nat) (hP1 : P < cP cn) (h1 : LPl cn g f gt P) : MCC G ad cn MX11_layPlaces [.ref (ad (60 + 8 * P))] g (fun v0 g1 => v0 = none ∧ addL (up2 g (60 + 8 * P) 7 0) P (PL f gt P) = g1) := by
  refine MCC.of ⟨rfl, rfl⟩ (by decide) (Nat.le_of_ble_eq_true rfl) rfl (fun h0 => vcX11_layPlaces_0 g f gt P hP1 ?_)
  have hz : (up2 g (60 + 8 * P) 7 0) (60 + 8 * P) 7 = nI 0 := up2_s _ _ _ _
  have hL0 : LPl cn (up2 g (60 + 8 * P) 7 0) f gt P := h1.sam ((Sam.rf g).up (by unfold scr; omega) 0)
  generalize hcc : up2 g (60 + 8 * P) 7 0 = c at hz hL0 ⊢
  obtain ⟨nn, s, hn0, hn4', hn12, hnN, hsv, hsK, hs1, hs3, hst, hk, hl⟩ := h1.2.1.nums
  obtain ⟨k2, ek, ek', hk1, hk4⟩ := hk 0 (by omega)
  have hc1 : stK gt P = 1 ∨ ((stN gt P 2 5 + 1 - stN gt P 2 4 ≤ 4 ∨ stK gt P = 2) ∧ stN gt P 1 5 + 1 - stN gt P 1 4 ≤ 4) := by
    rcases (show s = 1 ∨ s = 2 ∨ s = 3 by omega) with z | z | z
    · left; omega
    · right
      obtain ⟨l2, m2, -, z4, -, -, z5, z6, z7⟩ := hl 1 (by omega) (by omega)
      exact ⟨Or.inr (by omega), by omega⟩
    · right
      obtain ⟨l2, m2, -, z4, -, -, z5, z6, z7⟩ := hl 1 (by omega) (by omega)
      obtain ⟨l3, m3, -, y4, -, -, y5, y6, y7⟩ := hl 2 (by omega) (by omega)
      exact ⟨Or.inl (by omega), by omega⟩
  have hcS := h1.2.2.2.2
  have h0S : 0 < cS cn P := by omega
  have base : AWC G ad cn h0 MX11_layPlaces (fun v0 g1 => v0 = none ∧ addL c P (PL f gt P) = g1) (addL c P (fl (c1 f gt P) 0)) 7 [(0, .ref (ad (60 + 8 * P))), (1, .int (nI 0))] [] := by
    refine loopUp (A := fun a => AWC G ad cn h0 MX11_layPlaces (fun v0 g1 => v0 = none ∧ addL c P (PL f gt P) = g1) (addL c P (fl (c1 f gt P) a)) 7 [(0, .ref (ad (60 + 8 * P))), (1, .int (nI a))] []) nn ?_ ?_ 0 (by omega)
    · have hL' := hL0.sam (addL_sam c P (fl (c1 f gt P) nn))
      have hlk := hL'.look (j := 0) (by omega)
      refine vcX11_layPlaces_7 _ f gt P _ hP1 ?_
      rw [hlk.2.2.1, hn0]
      refine pk_le nn nn (fun _ => ⟨rfl, ?_⟩) (fun z => by omega)
      unfold PL
      rw [hnN]
    · intro a ha ih
      have hlen := fl_len (F := c1 f gt P) (c := 16) a (fun i _ => c1_len f gt P i hc1)
      have hL' := hL0.sam (addL_sam c P (fl (c1 f gt P) a))
      have hlk := hL'.look (j := 0) (by omega)
      have hcnt : addL c P (fl (c1 f gt P) a) (60 + 8 * P) 7 = nI (0 + (fl (c1 f gt P) a).length) := by rw [addL_7, hz, nc 0]
      refine vcX11_layPlaces_7 _ f gt P _ hP1 ?_
      rw [hlk.2.2.1, hn0]
      refine pk_le nn a (fun z => by omega) (fun _ => ⟨h0S, hL'.tgt.1, hL'.tgt.2, ⟨a, k2, nn, rfl, by omega, by rw [hlk.1 0 (by decide), ek], hk4, rfl, hn12⟩, hlk.2.1, ?_⟩)
      rw [nc a, fitsC_rel hL'.1 a hP1 hL'.2.1 h0S]
      refine ⟨fun cc => ⟨h0S, ?_⟩, fun cc => ?_⟩
      · have hle := okS_lt cc hnN ek'
        have hmk : mkS a k2 < 65536 := (mkS_n0 _ (by omega) _ (by omega) (by omega)).2
        rw [hlk.2.2.2, hsv, hlk.1 0 (by decide), ek, bits_mk _ (by omega) _ (by omega), nI_add]
        rcases (show s = 1 ∨ 2 ≤ s by omega) with z | z
        · subst z
          refine ⟨fun z => absurd rfl z, fun _ => ⟨by rw [hcnt]; exact vp_in_nI (by omega) (by decide), ?_⟩⟩
          rw [comeC_n _ _ _ _ hcnt (by omega), addL_add c P 0 _ _ hz (by simp only [List.length_cons, List.length_nil]; omega), nI_1]
          have e9 : fl (c1 f gt P) a ++ [mkS a k2] = fl (c1 f gt P) (a + 1) := by
            rw [fl_s]
            unfold c1
            rw [if_pos cc, ek', if_pos hsK]
          rw [e9]
          exact ih
        · have hs1'' : ¬ nI s = 1 := fun z => by have := (nI_eq (b := 1) (by omega) (by decide)).mp z; omega
          refine ⟨fun _ => ⟨h0S, by omega, by decide, ?_⟩, fun z => absurd z hs1''⟩
          have hlk1 := hL'.look (j := 1) (by omega)
          obtain ⟨l2, m2, f4, f4', hl62, f5, f5', hlm2, hml2⟩ := hl 1 (by omega) (by omega)
          rw [hlk1.1 4 (by decide), f4, nI_add, ← f4']
          refine cp96 hP1 hL' (by omega) (by omega) hmk hcnt (by omega) ?_
          have hc2l := fl_len (F := c2 f gt P (mkS a k2) (a + k2)) (c := 4) (stN gt P 1 5 + 1 - stN gt P 1 4) (fun i _ => c2_len f gt P _ _ i (by
            rcases hc1 with z1 | z1
            · omega
            · exact z1.1))
          rw [addL_add c P 0 _ _ hz (by
            have : stN gt P 1 5 + 1 - stN gt P 1 4 ≤ 4 := by rcases hc1 with z1 | z1 <;> omega
            omega)]
          have e9 : fl (c1 f gt P) a ++ fl (c2 f gt P (mkS a k2) (a + k2)) (stN gt P 1 5 + 1 - stN gt P 1 4) = fl (c1 f gt P) (a + 1) := by
            rw [fl_s (c1 f gt P)]
            congr 1
            unfold c1
            rw [if_pos cc, ek', if_neg (by omega)]
          rw [e9]
          exact ih
      · have e9 : fl (c1 f gt P) (a + 1) = fl (c1 f gt P) a := by
          rw [fl_s]
          unfold c1
          rw [cc]
          simp
        rw [nI_1, ← e9]
        exact ih
  rw [fl_0, addL_0 c P 0 hz (by omega)] at base
  exact base
