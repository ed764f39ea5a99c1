/-! ===== the reference: all placements of a plan (printed by h15.py) ===== -/
def fl (F : Nat → List Nat) (k : Nat) : List Nat := (List.range k).flatMap F
theorem fl_0 (F : Nat → List Nat) : fl F 0 = [] := rfl
theorem fl_s (F : Nat → List Nat) (k : Nat) : fl F (k + 1) = fl F k ++ F k := by
  unfold fl
  rw [List.range_succ, List.flatMap_append]
  simp
theorem fl_len {F : Nat → List Nat} {c : Nat} : ∀ k, (∀ i, i < k → (F i).length ≤ c) → (fl F k).length ≤ c * k
  | 0, _ => by simp [fl]
  | k + 1, h => by
    rw [fl_s, List.length_append, Nat.mul_succ]
    have h1 := fl_len k (fun i hi => h i (by omega))
    have h2 := h k (by omega)
    omega
def stK (g : Tg) (p : Nat) : Nat := (g 22 (23 * p + 4)).toNatClampNeg
def c3 (f : Tf) (g : Tg) (p m e i : Nat) : List Nat := if okS f g p 2 (e + stN g p 2 4 + i) then [m ||| mkS (e + stN g p 2 4 + i) (stN g p 2 0)] else []
def c2 (f : Tf) (g : Tg) (p m e i : Nat) : List Nat := if okS f g p 1 (e + stN g p 1 4 + i) then (if stK g p = 2 then [m ||| mkS (e + stN g p 1 4 + i) (stN g p 1 0)] else fl (c3 f g p (m ||| mkS (e + stN g p 1 4 + i) (stN g p 1 0)) (e + stN g p 1 4 + i + stN g p 1 0)) (stN g p 2 5 + 1 - stN g p 2 4)) else []
def c1 (f : Tf) (g : Tg) (p a : Nat) : List Nat := if okS f g p 0 a then (if stK g p = 1 then [mkS a (stN g p 0 0)] else fl (c2 f g p (mkS a (stN g p 0 0)) (a + stN g p 0 0)) (stN g p 1 5 + 1 - stN g p 1 4)) else []
/-- the placements of a plan, one after the other -/
def PL (f : Tf) (g : Tg) (p : Nat) : List Nat := fl (c1 f g p) (nN f)
def putL (f : Tf) (g : Tg) (p : Nat) (L : List Nat) : Tg := fun a i => if a = 23 ∧ i = p then nI L.length else if a = 24 ∧ 200 * p ≤ i ∧ i < 200 * p + L.length then nI (L.getD (i - 200 * p) 0) else if a = 25 ∧ 200 * p ≤ i ∧ i < 200 * p + L.length then wdT f (nI (L.getD (i - 200 * p) 0)) else g a i
theorem putL_23i (f : Tf) (g : Tg) (p : Nat) (L : List Nat) (i : Nat) : putL f g p L 23 i = if i = p then nI L.length else g 23 i := by simp [putL]
theorem putL_24 (f : Tf) (g : Tg) (p : Nat) (L : List Nat) (i : Nat) : putL f g p L 24 i = if 200 * p ≤ i ∧ i < 200 * p + L.length then nI (L.getD (i - 200 * p) 0) else g 24 i := by simp [putL]
theorem putL_25 (f : Tf) (g : Tg) (p : Nat) (L : List Nat) (i : Nat) : putL f g p L 25 i = if 200 * p ≤ i ∧ i < 200 * p + L.length then wdT f (nI (L.getD (i - 200 * p) 0)) else g 25 i := by simp [putL]
theorem putL_k (f : Tf) (g : Tg) (p : Nat) (L : List Nat) {a : Nat} (h1 : a ≠ 23) (h2 : a ≠ 24) (h3 : a ≠ 25) : putL f g p L a = g a := by
  funext i
  unfold putL
  simp [h1, h2, h3]
theorem putL_23 (f : Tf) (g : Tg) (p : Nat) (L : List Nat) : putL f g p L 23 p = nI L.length := by simp [putL]
theorem up2_i (g : Tg) {a i j : Nat} (v : Int32) : up2 g a i v a j = if j = i then v else g a j := by simp [up2]
theorem putL_0 (f : Tf) (g : Tg) (p : Nat) : putL f g p [] = up2 g 23 p 0 := by
  funext a i
  by_cases h : a = 23
  · subst h
    rw [putL_23i, up2_i]
    rfl
  · rw [up2_n _ _ _ _ h]
    by_cases h4 : a = 24
    · subst h4
      rw [putL_24, if_neg (by simp only [List.length_nil]; omega)]
    · by_cases h5 : a = 25
      · subst h5
        rw [putL_25, if_neg (by simp only [List.length_nil]; omega)]
      · rw [putL_k _ _ _ _ h h4 h5]
theorem getD_app (L : List Nat) (m j : Nat) (h : j < L.length) : (L ++ [m]).getD j 0 = L.getD j 0 := by
  rw [List.getD_eq_getElem?_getD, List.getD_eq_getElem?_getD, List.getElem?_append_left h]
theorem getD_last (L : List Nat) (m : Nat) : (L ++ [m]).getD L.length 0 = m := by simp
theorem putL_add (f : Tf) (g : Tg) (p m : Nat) (L : List Nat) (hp : p < 5) (hL : L.length < 200) : addP f (putL f g p L) (nI p) (nI m) = putL f g p (L ++ [m]) := by
  unfold addP
  rw [nc p, putL_23, nc L.length]
  have hl1 : (L ++ [m]).length = L.length + 1 := by simp
  funext a i
  by_cases h23 : a = 23
  · subst h23
    rw [up2_i, up2_n _ _ _ _ (by decide), up2_n _ _ _ _ (by decide), putL_23i, putL_23i, hl1, nI_1]
    by_cases hi : i = p
    · rw [if_pos hi, if_pos hi]
    · rw [if_neg hi, if_neg hi, if_neg hi]
  · rw [up2_n _ _ _ _ h23]
    by_cases h24 : a = 24
    · subst h24
      rw [up2_n _ _ _ _ (by decide), up2_i, putL_24, putL_24, hl1]
      by_cases hi : i = 200 * p + L.length
      · rw [if_pos hi, if_pos (by omega), show i - 200 * p = L.length by omega, getD_last]
      · rw [if_neg hi]
        by_cases h : 200 * p ≤ i ∧ i < 200 * p + L.length
        · rw [if_pos h, if_pos (by omega), getD_app L m _ (by omega)]
        · rw [if_neg h, if_neg (by omega)]
    · by_cases h25 : a = 25
      · subst h25
        rw [up2_i, up2_n _ _ _ _ (by decide), putL_25, putL_25, hl1]
        by_cases hi : i = 200 * p + L.length
        · rw [if_pos hi, if_pos (by omega), show i - 200 * p = L.length by omega, getD_last]
        · rw [if_neg hi]
          by_cases h : 200 * p ≤ i ∧ i < 200 * p + L.length
          · rw [if_pos h, if_pos (by omega), getD_app L m _ (by omega)]
          · rw [if_neg h, if_neg (by omega)]
      · rw [up2_n _ _ _ _ h25, up2_n _ _ _ _ h24, putL_k _ _ _ _ h23 h24 h25, putL_k _ _ _ _ h23 h24 h25]
theorem fitT_congr (f : Tf) {g g' : Tg} (h3 : g' 3 = g 3) (h4 : g' 4 = g 4) (h5 : g' 5 = g 5) (h9 : g' 9 = g 9) : fitT f g' = fitT f g := by
  funext t s k m a d
  unfold fitT visT airT
  rw [h3, h4, h5, h9]
theorem okS_congr (f : Tf) {g g' : Tg} (h3 : g' 3 = g 3) (h4 : g' 4 = g 4) (h5 : g' 5 = g 5) (h9 : g' 9 = g 9) (h22 : g' 22 = g 22) : okS f g' = okS f g := by
  funext p j a
  unfold okS fitN stN stp
  rw [fitT_congr f h3 h4 h5 h9, h22]
theorem sS_put (f : Tf) (g : Tg) (p : Nat) (L : List Nat) : sS f (putL f g p L) = sS f g := by
  have k : ∀ {a : Nat}, a ≠ 23 → a ≠ 24 → a ≠ 25 → putL f g p L a = g a := fun h1 h2 h3 => putL_k f g p L h1 h2 h3
  funext x j a
  unfold sS stN stp
  rw [okS_congr f (k (by decide) (by decide) (by decide)) (k (by decide) (by decide) (by decide)) (k (by decide) (by decide) (by decide)) (k (by decide) (by decide) (by decide)) (k (by decide) (by decide) (by decide)), k (by decide) (by decide) (by decide)]
theorem oS_put (f : Tf) (g : Tg) (p : Nat) (L : List Nat) : oS (putL f g p L) = oS g := by
  funext x j a
  unfold oS
  rw [putL_k _ _ _ _ (by decide) (by decide) (by decide)]
theorem sOf_put (f : Tf) (g : Tg) (p : Nat) (L : List Nat) : sOf (putL f g p L) = sOf g := by
  funext x
  unfold sOf
  rw [putL_k _ _ _ _ (by decide) (by decide) (by decide)]
theorem PlOK_congr {f : Tf} {g g' : Tg} {p : Nat} (h : g' 22 = g 22) : PlOK f g' p ↔ PlOK f g p := by
  unfold PlOK StOK
  rw [h]
theorem PP_put {f : Tf} {g : Tg} {p q : Nat} {L : List Nat} (h : PP f g p) : PP f (putL f g q L) p :=
  ⟨h.1, (PlOK_congr (putL_k _ _ _ _ (by decide) (by decide) (by decide))).mpr h.2.1, h.2.2⟩
theorem StOK_put {f : Tf} {g : Tg} {p j q : Nat} {L : List Nat} (h : StOK g p j) : StOK (putL f g q L) p j := by
  unfold StOK at h ⊢
  rw [putL_k _ _ _ _ (by decide) (by decide) (by decide)]
  exact h
theorem c3_len (f : Tf) (g : Tg) (p m e i : Nat) : (c3 f g p m e i).length ≤ 1 := by unfold c3; split <;> simp
theorem c2_len (f : Tf) (g : Tg) (p m e i : Nat) (h : stN g p 2 5 + 1 - stN g p 2 4 ≤ 4 ∨ stK g p = 2) : (c2 f g p m e i).length ≤ 4 := by
  unfold c2
  split
  · split
    · simp
    · rename_i h2
      have := fl_len (F := c3 f g p (m ||| mkS (e + stN g p 1 4 + i) (stN g p 1 0)) (e + stN g p 1 4 + i + stN g p 1 0)) (c := 1) (stN g p 2 5 + 1 - stN g p 2 4) (fun i _ => c3_len f g p _ _ i)
      rcases h with h | h
      · omega
      · exact absurd h h2
  · simp
theorem c1_len (f : Tf) (g : Tg) (p a : Nat) (h : stK g p = 1 ∨ ((stN g p 2 5 + 1 - stN g p 2 4 ≤ 4 ∨ stK g p = 2) ∧ stN g p 1 5 + 1 - stN g p 1 4 ≤ 4)) : (c1 f g p a).length ≤ 16 := by
  unfold c1
  split
  · split
    · simp
    · rename_i h2
      rcases h with h | ⟨h1, h3⟩
      · exact absurd h h2
      · have := fl_len (F := c2 f g p (mkS a (stN g p 0 0)) (a + stN g p 0 0)) (c := 4) (stN g p 1 5 + 1 - stN g p 1 4) (fun i _ => c2_len f g p _ _ i h1)
        omega
  · simp
/-- the steps of a plan that can be asked for: its numbers as naturals -/
theorem PP.nums {f : Tf} {g : Tg} {P : Nat} (h : PP f g P) : ∃ n s : Nat, f 0 = nI n ∧ 4 ≤ n ∧ n ≤ 12 ∧ nN f = n ∧ g 22 (23 * P + 4) = nI s ∧ stK g P = s ∧ 1 ≤ s ∧ s ≤ 3 ∧ (∀ j, j < s → StOK g P j) ∧ (∀ j, j < s → ∃ k : Nat, stp g P j 0 = nI k ∧ stN g P j 0 = k ∧ 1 ≤ k ∧ k ≤ 4) ∧ (∀ j, 0 < j → j < s → ∃ l m : Nat, stp g P j 4 = nI l ∧ stN g P j 4 = l ∧ l ≤ 6 ∧ stp g P j 5 = nI m ∧ stN g P j 5 = m ∧ l ≤ m ∧ m ≤ l + 3) := by
  obtain ⟨s, hs, hs1, hs3, hst⟩ := h.st
  obtain ⟨-, -, ⟨n, hn, hn4, hn12⟩, -⟩ := h
  refine ⟨n, s, hn, hn4, hn12, by unfold nN; rw [hn]; exact nc n, hs, by unfold stK; rw [hs]; exact nc s, hs1, hs3, hst, fun j hj => ?_, fun j h0 hj => ?_⟩
  · obtain ⟨k, -, -, -, hk, hk1, hk4, -⟩ := hst j hj
    exact ⟨k, hk, stN_of (k := 0) hk (by omega), hk1, hk4⟩
  · obtain ⟨k, _, _, _, -, -, -, -, -, -, -, -, -, -, hl⟩ := hst j hj
    obtain ⟨l, m, h1, h2, h3, h4, h5⟩ := hl h0
    exact ⟨l, m, h1, stN_of (k := 4) h1 (by omega), h2, h3, stN_of (k := 5) h3 (by omega), h4, h5⟩
abbrev MX9_findPlacements : Mi := (yX9_findPlacements, cX9_findPlacements, 10, none, { frames := 5, cells := 0, slots := 0, locals := 121 })
theorem nmX9_findPlacements : Nm yX9_findPlacements 1 := ⟨by decide +kernel, by decide +kernel, by decide +kernel⟩
theorem vcX9_findPlacements_0 {G : Gl} {o : Nat} {ad : Nat → Nat} {h0 : Hp} {Q : Option Value → Tf → Tg → Te → Prop} (f : Tf) (g : Tg) (e : Te) (p : Int32) (hv : vp_in p 5 ∧ AWT G o ad h0 MX9_findPlacements Q f (up2 g 23 p.toNatClampNeg 0) e 9 [(0, .ref o), (1, .int p), (2, .int 0)] []) :
    AWT G o ad h0 MX9_findPlacements Q f g e 0 [(0, .ref o), (1, .int p)] [] := by
  refine AWT_aload_n (pc := 0) dX9_findPlacements_0 rfl 0 rfl ?_
  refine AWT_getA (pc := 1) 23 (by decide) rfl rfl (FL.o q1066) dX9_findPlacements_1 ?_
  refine AWT_iload_n (pc := 4) dX9_findPlacements_4 rfl 1 rfl ?_
  refine AWT_iconst (pc := 5) (v := 0) dX9_findPlacements_5 (by decide) ?_
  refine AWT_iast (pc := 6) (k := 23) (n := 5) rfl dX9_findPlacements_6 hv.1 ?_
  have hv := hv.2
  refine AWT_iconst (pc := 7) (v := 0) dX9_findPlacements_7 (by decide) ?_
  refine AWT_istore_n (pc := 8) (lv' := [(2, .int 0), (0, .ref o), (1, .int p)]) dX9_findPlacements_8 rfl (by decide) rfl ?_
  refine AWT_lv (lv' := [(0, .ref o), (1, .int p), (2, .int 0)]) [1, 2, 0] rfl ?_
  exact hv
theorem vcX9_findPlacements_9 {G : Gl} {o : Nat} {ad : Nat → Nat} {h0 : Hp} {Q : Option Value → Tf → Tg → Te → Prop} (f : Tf) (g : Tg) (e : Te) (p : Int32) (a : Int32) (hv : (((f 0) ≤ a → Q none f g e) ∧ (¬ (f 0) ≤ a → (∃ P J A : Nat, p = nI P ∧ 0 = nI J ∧ a = nI A ∧ A < 100 ∧ PP f g P ∧ J < 3 ∧ StOK g P J) ∧ (((sS f g p 0 a) = 0 → (vp_in p 5) ∧ (vp_in 0 3) ∧ (vp_in 0 6) ∧ (vp_in p 5) ∧ (((sOf g p) ≤ 1 → AWT G o ad h0 MX9_findPlacements Q f g e 80 [(0, .ref o), (1, .int p), (2, .int a), (3, .int (sS f g p 0 a)), (4, .int (a + (oS g p 0 0))), (5, .int ((a + (oS g p 0 0)) + 0))] []) ∧ (¬ (sOf g p) ≤ 1 → (vp_in p 5) ∧ (vp_in 1 3) ∧ (vp_in 4 6) ∧ AWT G o ad h0 MX9_findPlacements Q f g e 80 [(0, .ref o), (1, .int p), (2, .int a), (3, .int (sS f g p 0 a)), (4, .int (a + (oS g p 0 0))), (5, .int ((a + (oS g p 0 0)) + (oS g p 1 4)))] []))) ∧ (¬ (sS f g p 0 a) = 0 → (vp_in p 5) ∧ ((¬ (sOf g p) = 1 → (vp_in p 5) ∧ (vp_in 0 3) ∧ (vp_in 0 6) ∧ (vp_in p 5) ∧ (((sOf g p) ≤ 1 → AWT G o ad h0 MX9_findPlacements Q f g e 80 [(0, .ref o), (1, .int p), (2, .int a), (3, .int (sS f g p 0 a)), (4, .int (a + (oS g p 0 0))), (5, .int ((a + (oS g p 0 0)) + 0))] []) ∧ (¬ (sOf g p) ≤ 1 → (vp_in p 5) ∧ (vp_in 1 3) ∧ (vp_in 4 6) ∧ AWT G o ad h0 MX9_findPlacements Q f g e 80 [(0, .ref o), (1, .int p), (2, .int a), (3, .int (sS f g p 0 a)), (4, .int (a + (oS g p 0 0))), (5, .int ((a + (oS g p 0 0)) + (oS g p 1 4)))] []))) ∧ ((sOf g p) = 1 → (∃ P c : Nat, p = nI P ∧ P < 5 ∧ g 23 P = nI c ∧ c < 200) ∧ (vp_in p 5) ∧ (vp_in 0 3) ∧ (vp_in 0 6) ∧ (vp_in p 5) ∧ (((sOf (addP f g p (sS f g p 0 a)) p) ≤ 1 → AWT G o ad h0 MX9_findPlacements Q f (addP f g p (sS f g p 0 a)) e 80 [(0, .ref o), (1, .int p), (2, .int a), (3, .int (sS f g p 0 a)), (4, .int (a + (oS (addP f g p (sS f g p 0 a)) p 0 0))), (5, .int ((a + (oS (addP f g p (sS f g p 0 a)) p 0 0)) + 0))] []) ∧ (¬ (sOf (addP f g p (sS f g p 0 a)) p) ≤ 1 → (vp_in p 5) ∧ (vp_in 1 3) ∧ (vp_in 4 6) ∧ AWT G o ad h0 MX9_findPlacements Q f (addP f g p (sS f g p 0 a)) e 80 [(0, .ref o), (1, .int p), (2, .int a), (3, .int (sS f g p 0 a)), (4, .int (a + (oS (addP f g p (sS f g p 0 a)) p 0 0))), (5, .int ((a + (oS (addP f g p (sS f g p 0 a)) p 0 0)) + (oS (addP f g p (sS f g p 0 a)) p 1 4)))] []))))))))) :
    AWT G o ad h0 MX9_findPlacements Q f g e 9 [(0, .ref o), (1, .int p), (2, .int a)] [] := by
  refine AWT_iload_n (pc := 9) dX9_findPlacements_9 rfl 2 rfl ?_
  refine AWT_aload_n (pc := 10) dX9_findPlacements_10 rfl 0 rfl ?_
  refine AWT_getI (pc := 11) 0 (by decide) rfl (FL.o q1043) dX9_findPlacements_11 ?_
  refine AWT_icmp_ge (pc := 14) (tgt := 252) dX9_findPlacements_14 (by decide) (fun c1 => ?_) (fun c1 => ?_)
  · have hv := hv.1 c1
    exact AWT_vret (pc := 252) rfl dX9_findPlacements_252 hv
  · have hv := hv.2 c1
    refine AWT_aload_n (pc := 17) dX9_findPlacements_17 rfl 0 rfl ?_
    refine AWT_iload_n (pc := 18) dX9_findPlacements_18 rfl 1 rfl ?_
    refine AWT_iconst (pc := 19) (v := 0) dX9_findPlacements_19 (by decide) ?_
    refine AWT_iload_n (pc := 20) dX9_findPlacements_20 rfl 2 rfl ?_
    have p2 := hv.1
    have hv := hv.2
    refine AWT_callV (M' := MX9_stepSlots) (pc := 21) [.int p, .int 0, .int a] [] rfl nmX9_stepSlots ⟨rfl, rfl⟩ (ML.o q1310) q1312 qs50 q82 q1313 dX9_findPlacements_21 rfl rfl (Nat.le_of_ble_eq_true rfl) ⟨Nat.le_of_ble_eq_true rfl, Nat.le_of_ble_eq_true rfl⟩ (mcX9_stepSlots f g e p 0 a p2) ?_
    rintro _ _ _ _ ⟨rfl, rfl, rfl, rfl⟩
    refine AWT_istore_n (pc := 24) (lv' := [(3, .int (sS f g p 0 a)), (0, .ref o), (1, .int p), (2, .int a)]) dX9_findPlacements_24 rfl (by decide) rfl ?_
    refine AWT_iload_n (pc := 25) dX9_findPlacements_25 rfl 0 rfl ?_
    refine AWT_if_eq (pc := 26) (tgt := 44) dX9_findPlacements_26 (by decide) (fun c3 => ?_) (fun c3 => ?_)
    · have hv := hv.1 c3
      refine AWT_iload_n (pc := 44) dX9_findPlacements_44 rfl 3 rfl ?_
      refine AWT_aload_n (pc := 45) dX9_findPlacements_45 rfl 1 rfl ?_
      refine AWT_iload_n (pc := 46) dX9_findPlacements_46 rfl 2 rfl ?_
      refine AWT_iconst (pc := 47) (v := 0) dX9_findPlacements_47 (by decide) ?_
      refine AWT_iconst (pc := 48) (v := 0) dX9_findPlacements_48 (by decide) ?_
      have p4 := hv.1
      have hv := hv.2
      have p5 := hv.1
      have hv := hv.2
      have p6 := hv.1
      have hv := hv.2
      refine AWT_callV (M' := MX9_ofStep) (pc := 49) [.int p, .int 0, .int 0] [.int a] rfl nmX9_ofStep ⟨rfl, rfl⟩ (ML.o q1314) q1316 qs51 q82 q1317 dX9_findPlacements_49 rfl rfl (Nat.le_of_ble_eq_true rfl) ⟨Nat.le_of_ble_eq_true rfl, Nat.le_of_ble_eq_true rfl⟩ (mcX9_ofStep f g e p 0 0 p4 p5 p6) ?_
      rintro _ _ _ _ ⟨rfl, rfl, rfl, rfl⟩
      refine AWT_iadd (pc := 52) dX9_findPlacements_52 ?_
      refine AWT_istore (pc := 53) (lv' := [(4, .int (a + (oS g p 0 0))), (3, .int (sS f g p 0 a)), (0, .ref o), (1, .int p), (2, .int a)]) dX9_findPlacements_53 (by decide) rfl ?_
      refine AWT_iload (pc := 55) dX9_findPlacements_55 0 rfl ?_
      refine AWT_aload_n (pc := 57) dX9_findPlacements_57 rfl 2 rfl ?_
      refine AWT_iload_n (pc := 58) dX9_findPlacements_58 rfl 3 rfl ?_
      have p7 := hv.1
      have hv := hv.2
      refine AWT_callV (M' := MX9_stepsOf) (pc := 59) [.int p] [.int (a + (oS g p 0 0))] rfl nmX9_stepsOf ⟨rfl, rfl⟩ (ML.o q1326) q1328 qs54 q82 q1329 dX9_findPlacements_59 rfl rfl (Nat.le_of_ble_eq_true rfl) ⟨Nat.le_of_ble_eq_true rfl, Nat.le_of_ble_eq_true rfl⟩ (mcX9_stepsOf f g e p p7) ?_
      rintro _ _ _ _ ⟨rfl, rfl, rfl, rfl⟩
      refine AWT_iconst (pc := 62) (v := 1) dX9_findPlacements_62 (by decide) ?_
      refine AWT_icmp_le (pc := 63) (tgt := 76) dX9_findPlacements_63 (by decide) (fun c8 => ?_) (fun c8 => ?_)
      · have hv := hv.1 c8
        refine AWT_iconst (pc := 76) (v := 0) dX9_findPlacements_76 (by decide) ?_
        refine AWT_iadd (pc := 77) dX9_findPlacements_77 ?_
        refine AWT_istore (pc := 78) (lv' := [(5, .int ((a + (oS g p 0 0)) + 0)), (4, .int (a + (oS g p 0 0))), (3, .int (sS f g p 0 a)), (0, .ref o), (1, .int p), (2, .int a)]) dX9_findPlacements_78 (by decide) rfl ?_
        refine AWT_lv (lv' := [(0, .ref o), (1, .int p), (2, .int a), (3, .int (sS f g p 0 a)), (4, .int (a + (oS g p 0 0))), (5, .int ((a + (oS g p 0 0)) + 0))]) [3, 4, 5, 2, 1, 0] rfl ?_
        exact hv
      · have hv := hv.2 c8
        refine AWT_aload_n (pc := 66) dX9_findPlacements_66 rfl 2 rfl ?_
        refine AWT_iload_n (pc := 67) dX9_findPlacements_67 rfl 3 rfl ?_
        refine AWT_iconst (pc := 68) (v := 1) dX9_findPlacements_68 (by decide) ?_
        refine AWT_iconst (pc := 69) (v := 4) dX9_findPlacements_69 (by decide) ?_
        have p9 := hv.1
        have hv := hv.2
        have p10 := hv.1
        have hv := hv.2
        have p11 := hv.1
        have hv := hv.2
        refine AWT_callV (M' := MX9_ofStep) (pc := 70) [.int p, .int 1, .int 4] [.int (a + (oS g p 0 0))] rfl nmX9_ofStep ⟨rfl, rfl⟩ (ML.o q1314) q1316 qs51 q82 q1317 dX9_findPlacements_70 rfl rfl (Nat.le_of_ble_eq_true rfl) ⟨Nat.le_of_ble_eq_true rfl, Nat.le_of_ble_eq_true rfl⟩ (mcX9_ofStep f g e p 1 4 p9 p10 p11) ?_
        rintro _ _ _ _ ⟨rfl, rfl, rfl, rfl⟩
        refine AWT_goto (pc := 73) (tgt := 77) dX9_findPlacements_73 (by decide) ?_
        refine AWT_iadd (pc := 77) dX9_findPlacements_77 ?_
        refine AWT_istore (pc := 78) (lv' := [(5, .int ((a + (oS g p 0 0)) + (oS g p 1 4))), (4, .int (a + (oS g p 0 0))), (3, .int (sS f g p 0 a)), (0, .ref o), (1, .int p), (2, .int a)]) dX9_findPlacements_78 (by decide) rfl ?_
        refine AWT_lv (lv' := [(0, .ref o), (1, .int p), (2, .int a), (3, .int (sS f g p 0 a)), (4, .int (a + (oS g p 0 0))), (5, .int ((a + (oS g p 0 0)) + (oS g p 1 4)))]) [3, 4, 5, 2, 1, 0] rfl ?_
        exact hv
    · have hv := hv.2 c3
      refine AWT_aload_n (pc := 29) dX9_findPlacements_29 rfl 1 rfl ?_
      refine AWT_iload_n (pc := 30) dX9_findPlacements_30 rfl 2 rfl ?_
      have p12 := hv.1
      have hv := hv.2
      refine AWT_callV (M' := MX9_stepsOf) (pc := 31) [.int p] [] rfl nmX9_stepsOf ⟨rfl, rfl⟩ (ML.o q1326) q1328 qs54 q82 q1329 dX9_findPlacements_31 rfl rfl (Nat.le_of_ble_eq_true rfl) ⟨Nat.le_of_ble_eq_true rfl, Nat.le_of_ble_eq_true rfl⟩ (mcX9_stepsOf f g e p p12) ?_
      rintro _ _ _ _ ⟨rfl, rfl, rfl, rfl⟩
      refine AWT_iconst (pc := 34) (v := 1) dX9_findPlacements_34 (by decide) ?_
      refine AWT_icmp_ne (pc := 35) (tgt := 44) dX9_findPlacements_35 (by decide) (fun c13 => ?_) (fun c13 => ?_)
      · have hv := hv.1 c13
        refine AWT_iload_n (pc := 44) dX9_findPlacements_44 rfl 3 rfl ?_
        refine AWT_aload_n (pc := 45) dX9_findPlacements_45 rfl 1 rfl ?_
        refine AWT_iload_n (pc := 46) dX9_findPlacements_46 rfl 2 rfl ?_
        refine AWT_iconst (pc := 47) (v := 0) dX9_findPlacements_47 (by decide) ?_
        refine AWT_iconst (pc := 48) (v := 0) dX9_findPlacements_48 (by decide) ?_
        have p14 := hv.1
        have hv := hv.2
        have p15 := hv.1
        have hv := hv.2
        have p16 := hv.1
        have hv := hv.2
        refine AWT_callV (M' := MX9_ofStep) (pc := 49) [.int p, .int 0, .int 0] [.int a] rfl nmX9_ofStep ⟨rfl, rfl⟩ (ML.o q1314) q1316 qs51 q82 q1317 dX9_findPlacements_49 rfl rfl (Nat.le_of_ble_eq_true rfl) ⟨Nat.le_of_ble_eq_true rfl, Nat.le_of_ble_eq_true rfl⟩ (mcX9_ofStep f g e p 0 0 p14 p15 p16) ?_
        rintro _ _ _ _ ⟨rfl, rfl, rfl, rfl⟩
        refine AWT_iadd (pc := 52) dX9_findPlacements_52 ?_
        refine AWT_istore (pc := 53) (lv' := [(4, .int (a + (oS g p 0 0))), (3, .int (sS f g p 0 a)), (0, .ref o), (1, .int p), (2, .int a)]) dX9_findPlacements_53 (by decide) rfl ?_
        refine AWT_iload (pc := 55) dX9_findPlacements_55 0 rfl ?_
        refine AWT_aload_n (pc := 57) dX9_findPlacements_57 rfl 2 rfl ?_
        refine AWT_iload_n (pc := 58) dX9_findPlacements_58 rfl 3 rfl ?_
        have p17 := hv.1
        have hv := hv.2
        refine AWT_callV (M' := MX9_stepsOf) (pc := 59) [.int p] [.int (a + (oS g p 0 0))] rfl nmX9_stepsOf ⟨rfl, rfl⟩ (ML.o q1326) q1328 qs54 q82 q1329 dX9_findPlacements_59 rfl rfl (Nat.le_of_ble_eq_true rfl) ⟨Nat.le_of_ble_eq_true rfl, Nat.le_of_ble_eq_true rfl⟩ (mcX9_stepsOf f g e p p17) ?_
        rintro _ _ _ _ ⟨rfl, rfl, rfl, rfl⟩
        refine AWT_iconst (pc := 62) (v := 1) dX9_findPlacements_62 (by decide) ?_
        refine AWT_icmp_le (pc := 63) (tgt := 76) dX9_findPlacements_63 (by decide) (fun c18 => ?_) (fun c18 => ?_)
        · have hv := hv.1 c18
          refine AWT_iconst (pc := 76) (v := 0) dX9_findPlacements_76 (by decide) ?_
          refine AWT_iadd (pc := 77) dX9_findPlacements_77 ?_
          refine AWT_istore (pc := 78) (lv' := [(5, .int ((a + (oS g p 0 0)) + 0)), (4, .int (a + (oS g p 0 0))), (3, .int (sS f g p 0 a)), (0, .ref o), (1, .int p), (2, .int a)]) dX9_findPlacements_78 (by decide) rfl ?_
          refine AWT_lv (lv' := [(0, .ref o), (1, .int p), (2, .int a), (3, .int (sS f g p 0 a)), (4, .int (a + (oS g p 0 0))), (5, .int ((a + (oS g p 0 0)) + 0))]) [3, 4, 5, 2, 1, 0] rfl ?_
          exact hv
        · have hv := hv.2 c18
          refine AWT_aload_n (pc := 66) dX9_findPlacements_66 rfl 2 rfl ?_
          refine AWT_iload_n (pc := 67) dX9_findPlacements_67 rfl 3 rfl ?_
          refine AWT_iconst (pc := 68) (v := 1) dX9_findPlacements_68 (by decide) ?_
          refine AWT_iconst (pc := 69) (v := 4) dX9_findPlacements_69 (by decide) ?_
          have p19 := hv.1
          have hv := hv.2
          have p20 := hv.1
          have hv := hv.2
          have p21 := hv.1
          have hv := hv.2
          refine AWT_callV (M' := MX9_ofStep) (pc := 70) [.int p, .int 1, .int 4] [.int (a + (oS g p 0 0))] rfl nmX9_ofStep ⟨rfl, rfl⟩ (ML.o q1314) q1316 qs51 q82 q1317 dX9_findPlacements_70 rfl rfl (Nat.le_of_ble_eq_true rfl) ⟨Nat.le_of_ble_eq_true rfl, Nat.le_of_ble_eq_true rfl⟩ (mcX9_ofStep f g e p 1 4 p19 p20 p21) ?_
          rintro _ _ _ _ ⟨rfl, rfl, rfl, rfl⟩
          refine AWT_goto (pc := 73) (tgt := 77) dX9_findPlacements_73 (by decide) ?_
          refine AWT_iadd (pc := 77) dX9_findPlacements_77 ?_
          refine AWT_istore (pc := 78) (lv' := [(5, .int ((a + (oS g p 0 0)) + (oS g p 1 4))), (4, .int (a + (oS g p 0 0))), (3, .int (sS f g p 0 a)), (0, .ref o), (1, .int p), (2, .int a)]) dX9_findPlacements_78 (by decide) rfl ?_
          refine AWT_lv (lv' := [(0, .ref o), (1, .int p), (2, .int a), (3, .int (sS f g p 0 a)), (4, .int (a + (oS g p 0 0))), (5, .int ((a + (oS g p 0 0)) + (oS g p 1 4)))]) [3, 4, 5, 2, 1, 0] rfl ?_
          exact hv
      · have hv := hv.2 c13
        refine AWT_aload_n (pc := 38) dX9_findPlacements_38 rfl 1 rfl ?_
        refine AWT_iload_n (pc := 39) dX9_findPlacements_39 rfl 2 rfl ?_
        refine AWT_iload_n (pc := 40) dX9_findPlacements_40 rfl 0 rfl ?_
        have p22 := hv.1
        have hv := hv.2
        refine AWT_callV (M' := MX9_addPlacement) (pc := 41) [.int p, .int (sS f g p 0 a)] [] rfl nmX9_addPlacement ⟨rfl, rfl⟩ (ML.o q1330) q1332 qs55 q82 q1333 dX9_findPlacements_41 rfl rfl (Nat.le_of_ble_eq_true rfl) ⟨Nat.le_of_ble_eq_true rfl, Nat.le_of_ble_eq_true rfl⟩ (mcX9_addPlacement f g e p (sS f g p 0 a) p22) ?_
        rintro _ _ _ _ ⟨rfl, rfl, rfl, rfl⟩
        refine AWT_iload_n (pc := 44) dX9_findPlacements_44 rfl 3 rfl ?_
        refine AWT_aload_n (pc := 45) dX9_findPlacements_45 rfl 1 rfl ?_
        refine AWT_iload_n (pc := 46) dX9_findPlacements_46 rfl 2 rfl ?_
        refine AWT_iconst (pc := 47) (v := 0) dX9_findPlacements_47 (by decide) ?_
        refine AWT_iconst (pc := 48) (v := 0) dX9_findPlacements_48 (by decide) ?_
        have p23 := hv.1
        have hv := hv.2
        have p24 := hv.1
        have hv := hv.2
        have p25 := hv.1
        have hv := hv.2
        refine AWT_callV (M' := MX9_ofStep) (pc := 49) [.int p, .int 0, .int 0] [.int a] rfl nmX9_ofStep ⟨rfl, rfl⟩ (ML.o q1314) q1316 qs51 q82 q1317 dX9_findPlacements_49 rfl rfl (Nat.le_of_ble_eq_true rfl) ⟨Nat.le_of_ble_eq_true rfl, Nat.le_of_ble_eq_true rfl⟩ (mcX9_ofStep f (addP f g p (sS f g p 0 a)) e p 0 0 p23 p24 p25) ?_
        rintro _ _ _ _ ⟨rfl, rfl, rfl, rfl⟩
        refine AWT_iadd (pc := 52) dX9_findPlacements_52 ?_
        refine AWT_istore (pc := 53) (lv' := [(4, .int (a + (oS (addP f g p (sS f g p 0 a)) p 0 0))), (3, .int (sS f g p 0 a)), (0, .ref o), (1, .int p), (2, .int a)]) dX9_findPlacements_53 (by decide) rfl ?_
        refine AWT_iload (pc := 55) dX9_findPlacements_55 0 rfl ?_
        refine AWT_aload_n (pc := 57) dX9_findPlacements_57 rfl 2 rfl ?_
        refine AWT_iload_n (pc := 58) dX9_findPlacements_58 rfl 3 rfl ?_
        have p26 := hv.1
        have hv := hv.2
        refine AWT_callV (M' := MX9_stepsOf) (pc := 59) [.int p] [.int (a + (oS (addP f g p (sS f g p 0 a)) p 0 0))] rfl nmX9_stepsOf ⟨rfl, rfl⟩ (ML.o q1326) q1328 qs54 q82 q1329 dX9_findPlacements_59 rfl rfl (Nat.le_of_ble_eq_true rfl) ⟨Nat.le_of_ble_eq_true rfl, Nat.le_of_ble_eq_true rfl⟩ (mcX9_stepsOf f (addP f g p (sS f g p 0 a)) e p p26) ?_
        rintro _ _ _ _ ⟨rfl, rfl, rfl, rfl⟩
        refine AWT_iconst (pc := 62) (v := 1) dX9_findPlacements_62 (by decide) ?_
        refine AWT_icmp_le (pc := 63) (tgt := 76) dX9_findPlacements_63 (by decide) (fun c27 => ?_) (fun c27 => ?_)
        · have hv := hv.1 c27
          refine AWT_iconst (pc := 76) (v := 0) dX9_findPlacements_76 (by decide) ?_
          refine AWT_iadd (pc := 77) dX9_findPlacements_77 ?_
          refine AWT_istore (pc := 78) (lv' := [(5, .int ((a + (oS (addP f g p (sS f g p 0 a)) p 0 0)) + 0)), (4, .int (a + (oS (addP f g p (sS f g p 0 a)) p 0 0))), (3, .int (sS f g p 0 a)), (0, .ref o), (1, .int p), (2, .int a)]) dX9_findPlacements_78 (by decide) rfl ?_
          refine AWT_lv (lv' := [(0, .ref o), (1, .int p), (2, .int a), (3, .int (sS f g p 0 a)), (4, .int (a + (oS (addP f g p (sS f g p 0 a)) p 0 0))), (5, .int ((a + (oS (addP f g p (sS f g p 0 a)) p 0 0)) + 0))]) [3, 4, 5, 2, 1, 0] rfl ?_
          exact hv
        · have hv := hv.2 c27
          refine AWT_aload_n (pc := 66) dX9_findPlacements_66 rfl 2 rfl ?_
          refine AWT_iload_n (pc := 67) dX9_findPlacements_67 rfl 3 rfl ?_
          refine AWT_iconst (pc := 68) (v := 1) dX9_findPlacements_68 (by decide) ?_
          refine AWT_iconst (pc := 69) (v := 4) dX9_findPlacements_69 (by decide) ?_
          have p28 := hv.1
          have hv := hv.2
          have p29 := hv.1
          have hv := hv.2
          have p30 := hv.1
          have hv := hv.2
          refine AWT_callV (M' := MX9_ofStep) (pc := 70) [.int p, .int 1, .int 4] [.int (a + (oS (addP f g p (sS f g p 0 a)) p 0 0))] rfl nmX9_ofStep ⟨rfl, rfl⟩ (ML.o q1314) q1316 qs51 q82 q1317 dX9_findPlacements_70 rfl rfl (Nat.le_of_ble_eq_true rfl) ⟨Nat.le_of_ble_eq_true rfl, Nat.le_of_ble_eq_true rfl⟩ (mcX9_ofStep f (addP f g p (sS f g p 0 a)) e p 1 4 p28 p29 p30) ?_
          rintro _ _ _ _ ⟨rfl, rfl, rfl, rfl⟩
          refine AWT_goto (pc := 73) (tgt := 77) dX9_findPlacements_73 (by decide) ?_
          refine AWT_iadd (pc := 77) dX9_findPlacements_77 ?_
          refine AWT_istore (pc := 78) (lv' := [(5, .int ((a + (oS (addP f g p (sS f g p 0 a)) p 0 0)) + (oS (addP f g p (sS f g p 0 a)) p 1 4))), (4, .int (a + (oS (addP f g p (sS f g p 0 a)) p 0 0))), (3, .int (sS f g p 0 a)), (0, .ref o), (1, .int p), (2, .int a)]) dX9_findPlacements_78 (by decide) rfl ?_
          refine AWT_lv (lv' := [(0, .ref o), (1, .int p), (2, .int a), (3, .int (sS f g p 0 a)), (4, .int (a + (oS (addP f g p (sS f g p 0 a)) p 0 0))), (5, .int ((a + (oS (addP f g p (sS f g p 0 a)) p 0 0)) + (oS (addP f g p (sS f g p 0 a)) p 1 4)))]) [3, 4, 5, 2, 1, 0] rfl ?_
          exact hv
theorem vcX9_findPlacements_80 {G : Gl} {o : Nat} {ad : Nat → Nat} {h0 : Hp} {Q : Option Value → Tf → Tg → Te → Prop} (f : Tf) (g : Tg) (e : Te) (p : Int32) (a : Int32) (x : Int32) (ea : Int32) (b : Int32) (hv : ((x = 0 → AWT G o ad h0 MX9_findPlacements Q f g e 9 [(0, .ref o), (1, .int p), (2, .int (a + 1))] []) ∧ (¬ x = 0 → (vp_in p 5) ∧ (((sOf g p) ≤ 1 → AWT G o ad h0 MX9_findPlacements Q f g e 9 [(0, .ref o), (1, .int p), (2, .int (a + 1))] []) ∧ (¬ (sOf g p) ≤ 1 → (vp_in p 5) ∧ (vp_in 1 3) ∧ (vp_in 5 6) ∧ (((ea + (oS g p 1 5)) < b → AWT G o ad h0 MX9_findPlacements Q f g e 9 [(0, .ref o), (1, .int p), (2, .int (a + 1))] []) ∧ (¬ (ea + (oS g p 1 5)) < b → (∃ P J A : Nat, p = nI P ∧ 1 = nI J ∧ b = nI A ∧ A < 100 ∧ PP f g P ∧ J < 3 ∧ StOK g P J) ∧ (((sS f g p 1 b) = 0 → (vp_in p 5) ∧ (vp_in 1 3) ∧ (vp_in 0 6) ∧ (vp_in p 5) ∧ (((sOf g p) ≤ 2 → AWT G o ad h0 MX9_findPlacements Q f g e 178 [(0, .ref o), (1, .int p), (2, .int a), (3, .int x), (4, .int ea), (5, .int b), (6, .int (sS f g p 1 b)), (7, .int (b + (oS g p 1 0))), (8, .int ((b + (oS g p 1 0)) + 0))] []) ∧ (¬ (sOf g p) ≤ 2 → (vp_in p 5) ∧ (vp_in 2 3) ∧ (vp_in 4 6) ∧ AWT G o ad h0 MX9_findPlacements Q f g e 178 [(0, .ref o), (1, .int p), (2, .int a), (3, .int x), (4, .int ea), (5, .int b), (6, .int (sS f g p 1 b)), (7, .int (b + (oS g p 1 0))), (8, .int ((b + (oS g p 1 0)) + (oS g p 2 4)))] []))) ∧ (¬ (sS f g p 1 b) = 0 → (vp_in p 5) ∧ ((¬ (sOf g p) = 2 → (vp_in p 5) ∧ (vp_in 1 3) ∧ (vp_in 0 6) ∧ (vp_in p 5) ∧ (((sOf g p) ≤ 2 → AWT G o ad h0 MX9_findPlacements Q f g e 178 [(0, .ref o), (1, .int p), (2, .int a), (3, .int x), (4, .int ea), (5, .int b), (6, .int (sS f g p 1 b)), (7, .int (b + (oS g p 1 0))), (8, .int ((b + (oS g p 1 0)) + 0))] []) ∧ (¬ (sOf g p) ≤ 2 → (vp_in p 5) ∧ (vp_in 2 3) ∧ (vp_in 4 6) ∧ AWT G o ad h0 MX9_findPlacements Q f g e 178 [(0, .ref o), (1, .int p), (2, .int a), (3, .int x), (4, .int ea), (5, .int b), (6, .int (sS f g p 1 b)), (7, .int (b + (oS g p 1 0))), (8, .int ((b + (oS g p 1 0)) + (oS g p 2 4)))] []))) ∧ ((sOf g p) = 2 → (∃ P c : Nat, p = nI P ∧ P < 5 ∧ g 23 P = nI c ∧ c < 200) ∧ (vp_in p 5) ∧ (vp_in 1 3) ∧ (vp_in 0 6) ∧ (vp_in p 5) ∧ (((sOf (addP f g p (x ||| (sS f g p 1 b))) p) ≤ 2 → AWT G o ad h0 MX9_findPlacements Q f (addP f g p (x ||| (sS f g p 1 b))) e 178 [(0, .ref o), (1, .int p), (2, .int a), (3, .int x), (4, .int ea), (5, .int b), (6, .int (sS f g p 1 b)), (7, .int (b + (oS (addP f g p (x ||| (sS f g p 1 b))) p 1 0))), (8, .int ((b + (oS (addP f g p (x ||| (sS f g p 1 b))) p 1 0)) + 0))] []) ∧ (¬ (sOf (addP f g p (x ||| (sS f g p 1 b))) p) ≤ 2 → (vp_in p 5) ∧ (vp_in 2 3) ∧ (vp_in 4 6) ∧ AWT G o ad h0 MX9_findPlacements Q f (addP f g p (x ||| (sS f g p 1 b))) e 178 [(0, .ref o), (1, .int p), (2, .int a), (3, .int x), (4, .int ea), (5, .int b), (6, .int (sS f g p 1 b)), (7, .int (b + (oS (addP f g p (x ||| (sS f g p 1 b))) p 1 0))), (8, .int ((b + (oS (addP f g p (x ||| (sS f g p 1 b))) p 1 0)) + (oS (addP f g p (x ||| (sS f g p 1 b))) p 2 4)))] []))))))))))))) :
    AWT G o ad h0 MX9_findPlacements Q f g e 80 [(0, .ref o), (1, .int p), (2, .int a), (3, .int x), (4, .int ea), (5, .int b)] [] := by
  refine AWT_iload_n (pc := 80) dX9_findPlacements_80 rfl 3 rfl ?_
  refine AWT_if_eq (pc := 81) (tgt := 246) dX9_findPlacements_81 (by decide) (fun c1 => ?_) (fun c1 => ?_)
  · have hv := hv.1 c1
    refine AWT_iinc (pc := 246) (v := a + 1) (lv' := [(2, .int (a + 1)), (0, .ref o), (1, .int p), (3, .int x), (4, .int ea), (5, .int b)]) dX9_findPlacements_246 2 rfl rfl (by decide) rfl ?_
    refine AWT_goto (pc := 249) (tgt := 9) dX9_findPlacements_249 (by decide) ?_
    refine AWT_lv (lv' := [(0, .ref o), (1, .int p), (2, .int (a + 1))]) [1, 2, 0] rfl ?_
    exact hv
  · have hv := hv.2 c1
    refine AWT_aload_n (pc := 84) dX9_findPlacements_84 rfl 0 rfl ?_
    refine AWT_iload_n (pc := 85) dX9_findPlacements_85 rfl 1 rfl ?_
    have p2 := hv.1
    have hv := hv.2
    refine AWT_callV (M' := MX9_stepsOf) (pc := 86) [.int p] [] rfl nmX9_stepsOf ⟨rfl, rfl⟩ (ML.o q1326) q1328 qs54 q82 q1329 dX9_findPlacements_86 rfl rfl (Nat.le_of_ble_eq_true rfl) ⟨Nat.le_of_ble_eq_true rfl, Nat.le_of_ble_eq_true rfl⟩ (mcX9_stepsOf f g e p p2) ?_
    rintro _ _ _ _ ⟨rfl, rfl, rfl, rfl⟩
    refine AWT_iconst (pc := 89) (v := 1) dX9_findPlacements_89 (by decide) ?_
    refine AWT_icmp_le (pc := 90) (tgt := 246) dX9_findPlacements_90 (by decide) (fun c3 => ?_) (fun c3 => ?_)
    · have hv := hv.1 c3
      refine AWT_iinc (pc := 246) (v := a + 1) (lv' := [(2, .int (a + 1)), (0, .ref o), (1, .int p), (3, .int x), (4, .int ea), (5, .int b)]) dX9_findPlacements_246 2 rfl rfl (by decide) rfl ?_
      refine AWT_goto (pc := 249) (tgt := 9) dX9_findPlacements_249 (by decide) ?_
      refine AWT_lv (lv' := [(0, .ref o), (1, .int p), (2, .int (a + 1))]) [1, 2, 0] rfl ?_
      exact hv
    · have hv := hv.2 c3
      refine AWT_iload (pc := 93) dX9_findPlacements_93 5 rfl ?_
      refine AWT_iload (pc := 95) dX9_findPlacements_95 4 rfl ?_
      refine AWT_aload_n (pc := 97) dX9_findPlacements_97 rfl 0 rfl ?_
      refine AWT_iload_n (pc := 98) dX9_findPlacements_98 rfl 1 rfl ?_
      refine AWT_iconst (pc := 99) (v := 1) dX9_findPlacements_99 (by decide) ?_
      refine AWT_iconst (pc := 100) (v := 5) dX9_findPlacements_100 (by decide) ?_
      have p4 := hv.1
      have hv := hv.2
      have p5 := hv.1
      have hv := hv.2
      have p6 := hv.1
      have hv := hv.2
      refine AWT_callV (M' := MX9_ofStep) (pc := 101) [.int p, .int 1, .int 5] [.int ea, .int b] rfl nmX9_ofStep ⟨rfl, rfl⟩ (ML.o q1314) q1316 qs51 q82 q1317 dX9_findPlacements_101 rfl rfl (Nat.le_of_ble_eq_true rfl) ⟨Nat.le_of_ble_eq_true rfl, Nat.le_of_ble_eq_true rfl⟩ (mcX9_ofStep f g e p 1 5 p4 p5 p6) ?_
      rintro _ _ _ _ ⟨rfl, rfl, rfl, rfl⟩
      refine AWT_iadd (pc := 104) dX9_findPlacements_104 ?_
      refine AWT_icmp_gt (pc := 105) (tgt := 246) dX9_findPlacements_105 (by decide) (fun c7 => ?_) (fun c7 => ?_)
      · have hv := hv.1 c7
        refine AWT_iinc (pc := 246) (v := a + 1) (lv' := [(2, .int (a + 1)), (0, .ref o), (1, .int p), (3, .int x), (4, .int ea), (5, .int b)]) dX9_findPlacements_246 2 rfl rfl (by decide) rfl ?_
        refine AWT_goto (pc := 249) (tgt := 9) dX9_findPlacements_249 (by decide) ?_
        refine AWT_lv (lv' := [(0, .ref o), (1, .int p), (2, .int (a + 1))]) [1, 2, 0] rfl ?_
        exact hv
      · have hv := hv.2 c7
        refine AWT_aload_n (pc := 108) dX9_findPlacements_108 rfl 0 rfl ?_
        refine AWT_iload_n (pc := 109) dX9_findPlacements_109 rfl 1 rfl ?_
        refine AWT_iconst (pc := 110) (v := 1) dX9_findPlacements_110 (by decide) ?_
        refine AWT_iload (pc := 111) dX9_findPlacements_111 5 rfl ?_
        have p8 := hv.1
        have hv := hv.2
        refine AWT_callV (M' := MX9_stepSlots) (pc := 113) [.int p, .int 1, .int b] [] rfl nmX9_stepSlots ⟨rfl, rfl⟩ (ML.o q1310) q1312 qs50 q82 q1313 dX9_findPlacements_113 rfl rfl (Nat.le_of_ble_eq_true rfl) ⟨Nat.le_of_ble_eq_true rfl, Nat.le_of_ble_eq_true rfl⟩ (mcX9_stepSlots f g e p 1 b p8) ?_
        rintro _ _ _ _ ⟨rfl, rfl, rfl, rfl⟩
        refine AWT_istore (pc := 116) (lv' := [(6, .int (sS f g p 1 b)), (0, .ref o), (1, .int p), (2, .int a), (3, .int x), (4, .int ea), (5, .int b)]) dX9_findPlacements_116 (by decide) rfl ?_
        refine AWT_iload (pc := 118) dX9_findPlacements_118 0 rfl ?_
        refine AWT_if_eq (pc := 120) (tgt := 141) dX9_findPlacements_120 (by decide) (fun c9 => ?_) (fun c9 => ?_)
        · have hv := hv.1 c9
          refine AWT_iload (pc := 141) dX9_findPlacements_141 6 rfl ?_
          refine AWT_aload_n (pc := 143) dX9_findPlacements_143 rfl 1 rfl ?_
          refine AWT_iload_n (pc := 144) dX9_findPlacements_144 rfl 2 rfl ?_
          refine AWT_iconst (pc := 145) (v := 1) dX9_findPlacements_145 (by decide) ?_
          refine AWT_iconst (pc := 146) (v := 0) dX9_findPlacements_146 (by decide) ?_
          have p10 := hv.1
          have hv := hv.2
          have p11 := hv.1
          have hv := hv.2
          have p12 := hv.1
          have hv := hv.2
          refine AWT_callV (M' := MX9_ofStep) (pc := 147) [.int p, .int 1, .int 0] [.int b] rfl nmX9_ofStep ⟨rfl, rfl⟩ (ML.o q1314) q1316 qs51 q82 q1317 dX9_findPlacements_147 rfl rfl (Nat.le_of_ble_eq_true rfl) ⟨Nat.le_of_ble_eq_true rfl, Nat.le_of_ble_eq_true rfl⟩ (mcX9_ofStep f g e p 1 0 p10 p11 p12) ?_
          rintro _ _ _ _ ⟨rfl, rfl, rfl, rfl⟩
          refine AWT_iadd (pc := 150) dX9_findPlacements_150 ?_
          refine AWT_istore (pc := 151) (lv' := [(7, .int (b + (oS g p 1 0))), (6, .int (sS f g p 1 b)), (0, .ref o), (1, .int p), (2, .int a), (3, .int x), (4, .int ea), (5, .int b)]) dX9_findPlacements_151 (by decide) rfl ?_
          refine AWT_iload (pc := 153) dX9_findPlacements_153 0 rfl ?_
          refine AWT_aload_n (pc := 155) dX9_findPlacements_155 rfl 2 rfl ?_
          refine AWT_iload_n (pc := 156) dX9_findPlacements_156 rfl 3 rfl ?_
          have p13 := hv.1
          have hv := hv.2
          refine AWT_callV (M' := MX9_stepsOf) (pc := 157) [.int p] [.int (b + (oS g p 1 0))] rfl nmX9_stepsOf ⟨rfl, rfl⟩ (ML.o q1326) q1328 qs54 q82 q1329 dX9_findPlacements_157 rfl rfl (Nat.le_of_ble_eq_true rfl) ⟨Nat.le_of_ble_eq_true rfl, Nat.le_of_ble_eq_true rfl⟩ (mcX9_stepsOf f g e p p13) ?_
          rintro _ _ _ _ ⟨rfl, rfl, rfl, rfl⟩
          refine AWT_iconst (pc := 160) (v := 2) dX9_findPlacements_160 (by decide) ?_
          refine AWT_icmp_le (pc := 161) (tgt := 174) dX9_findPlacements_161 (by decide) (fun c14 => ?_) (fun c14 => ?_)
          · have hv := hv.1 c14
            refine AWT_iconst (pc := 174) (v := 0) dX9_findPlacements_174 (by decide) ?_
            refine AWT_iadd (pc := 175) dX9_findPlacements_175 ?_
            refine AWT_istore (pc := 176) (lv' := [(8, .int ((b + (oS g p 1 0)) + 0)), (7, .int (b + (oS g p 1 0))), (6, .int (sS f g p 1 b)), (0, .ref o), (1, .int p), (2, .int a), (3, .int x), (4, .int ea), (5, .int b)]) dX9_findPlacements_176 (by decide) rfl ?_
            refine AWT_lv (lv' := [(0, .ref o), (1, .int p), (2, .int a), (3, .int x), (4, .int ea), (5, .int b), (6, .int (sS f g p 1 b)), (7, .int (b + (oS g p 1 0))), (8, .int ((b + (oS g p 1 0)) + 0))]) [3, 4, 5, 6, 7, 8, 2, 1, 0] rfl ?_
            exact hv
          · have hv := hv.2 c14
            refine AWT_aload_n (pc := 164) dX9_findPlacements_164 rfl 2 rfl ?_
            refine AWT_iload_n (pc := 165) dX9_findPlacements_165 rfl 3 rfl ?_
            refine AWT_iconst (pc := 166) (v := 2) dX9_findPlacements_166 (by decide) ?_
            refine AWT_iconst (pc := 167) (v := 4) dX9_findPlacements_167 (by decide) ?_
            have p15 := hv.1
            have hv := hv.2
            have p16 := hv.1
            have hv := hv.2
            have p17 := hv.1
            have hv := hv.2
            refine AWT_callV (M' := MX9_ofStep) (pc := 168) [.int p, .int 2, .int 4] [.int (b + (oS g p 1 0))] rfl nmX9_ofStep ⟨rfl, rfl⟩ (ML.o q1314) q1316 qs51 q82 q1317 dX9_findPlacements_168 rfl rfl (Nat.le_of_ble_eq_true rfl) ⟨Nat.le_of_ble_eq_true rfl, Nat.le_of_ble_eq_true rfl⟩ (mcX9_ofStep f g e p 2 4 p15 p16 p17) ?_
            rintro _ _ _ _ ⟨rfl, rfl, rfl, rfl⟩
            refine AWT_goto (pc := 171) (tgt := 175) dX9_findPlacements_171 (by decide) ?_
            refine AWT_iadd (pc := 175) dX9_findPlacements_175 ?_
            refine AWT_istore (pc := 176) (lv' := [(8, .int ((b + (oS g p 1 0)) + (oS g p 2 4))), (7, .int (b + (oS g p 1 0))), (6, .int (sS f g p 1 b)), (0, .ref o), (1, .int p), (2, .int a), (3, .int x), (4, .int ea), (5, .int b)]) dX9_findPlacements_176 (by decide) rfl ?_
            refine AWT_lv (lv' := [(0, .ref o), (1, .int p), (2, .int a), (3, .int x), (4, .int ea), (5, .int b), (6, .int (sS f g p 1 b)), (7, .int (b + (oS g p 1 0))), (8, .int ((b + (oS g p 1 0)) + (oS g p 2 4)))]) [3, 4, 5, 6, 7, 8, 2, 1, 0] rfl ?_
            exact hv
        · have hv := hv.2 c9
          refine AWT_aload_n (pc := 123) dX9_findPlacements_123 rfl 1 rfl ?_
          refine AWT_iload_n (pc := 124) dX9_findPlacements_124 rfl 2 rfl ?_
          have p18 := hv.1
          have hv := hv.2
          refine AWT_callV (M' := MX9_stepsOf) (pc := 125) [.int p] [] rfl nmX9_stepsOf ⟨rfl, rfl⟩ (ML.o q1326) q1328 qs54 q82 q1329 dX9_findPlacements_125 rfl rfl (Nat.le_of_ble_eq_true rfl) ⟨Nat.le_of_ble_eq_true rfl, Nat.le_of_ble_eq_true rfl⟩ (mcX9_stepsOf f g e p p18) ?_
          rintro _ _ _ _ ⟨rfl, rfl, rfl, rfl⟩
          refine AWT_iconst (pc := 128) (v := 2) dX9_findPlacements_128 (by decide) ?_
          refine AWT_icmp_ne (pc := 129) (tgt := 141) dX9_findPlacements_129 (by decide) (fun c19 => ?_) (fun c19 => ?_)
          · have hv := hv.1 c19
            refine AWT_iload (pc := 141) dX9_findPlacements_141 6 rfl ?_
            refine AWT_aload_n (pc := 143) dX9_findPlacements_143 rfl 1 rfl ?_
            refine AWT_iload_n (pc := 144) dX9_findPlacements_144 rfl 2 rfl ?_
            refine AWT_iconst (pc := 145) (v := 1) dX9_findPlacements_145 (by decide) ?_
            refine AWT_iconst (pc := 146) (v := 0) dX9_findPlacements_146 (by decide) ?_
            have p20 := hv.1
            have hv := hv.2
            have p21 := hv.1
            have hv := hv.2
            have p22 := hv.1
            have hv := hv.2
            refine AWT_callV (M' := MX9_ofStep) (pc := 147) [.int p, .int 1, .int 0] [.int b] rfl nmX9_ofStep ⟨rfl, rfl⟩ (ML.o q1314) q1316 qs51 q82 q1317 dX9_findPlacements_147 rfl rfl (Nat.le_of_ble_eq_true rfl) ⟨Nat.le_of_ble_eq_true rfl, Nat.le_of_ble_eq_true rfl⟩ (mcX9_ofStep f g e p 1 0 p20 p21 p22) ?_
            rintro _ _ _ _ ⟨rfl, rfl, rfl, rfl⟩
            refine AWT_iadd (pc := 150) dX9_findPlacements_150 ?_
            refine AWT_istore (pc := 151) (lv' := [(7, .int (b + (oS g p 1 0))), (6, .int (sS f g p 1 b)), (0, .ref o), (1, .int p), (2, .int a), (3, .int x), (4, .int ea), (5, .int b)]) dX9_findPlacements_151 (by decide) rfl ?_
            refine AWT_iload (pc := 153) dX9_findPlacements_153 0 rfl ?_
            refine AWT_aload_n (pc := 155) dX9_findPlacements_155 rfl 2 rfl ?_
            refine AWT_iload_n (pc := 156) dX9_findPlacements_156 rfl 3 rfl ?_
            have p23 := hv.1
            have hv := hv.2
            refine AWT_callV (M' := MX9_stepsOf) (pc := 157) [.int p] [.int (b + (oS g p 1 0))] rfl nmX9_stepsOf ⟨rfl, rfl⟩ (ML.o q1326) q1328 qs54 q82 q1329 dX9_findPlacements_157 rfl rfl (Nat.le_of_ble_eq_true rfl) ⟨Nat.le_of_ble_eq_true rfl, Nat.le_of_ble_eq_true rfl⟩ (mcX9_stepsOf f g e p p23) ?_
            rintro _ _ _ _ ⟨rfl, rfl, rfl, rfl⟩
            refine AWT_iconst (pc := 160) (v := 2) dX9_findPlacements_160 (by decide) ?_
            refine AWT_icmp_le (pc := 161) (tgt := 174) dX9_findPlacements_161 (by decide) (fun c24 => ?_) (fun c24 => ?_)
            · have hv := hv.1 c24
              refine AWT_iconst (pc := 174) (v := 0) dX9_findPlacements_174 (by decide) ?_
              refine AWT_iadd (pc := 175) dX9_findPlacements_175 ?_
              refine AWT_istore (pc := 176) (lv' := [(8, .int ((b + (oS g p 1 0)) + 0)), (7, .int (b + (oS g p 1 0))), (6, .int (sS f g p 1 b)), (0, .ref o), (1, .int p), (2, .int a), (3, .int x), (4, .int ea), (5, .int b)]) dX9_findPlacements_176 (by decide) rfl ?_
              refine AWT_lv (lv' := [(0, .ref o), (1, .int p), (2, .int a), (3, .int x), (4, .int ea), (5, .int b), (6, .int (sS f g p 1 b)), (7, .int (b + (oS g p 1 0))), (8, .int ((b + (oS g p 1 0)) + 0))]) [3, 4, 5, 6, 7, 8, 2, 1, 0] rfl ?_
              exact hv
            · have hv := hv.2 c24
              refine AWT_aload_n (pc := 164) dX9_findPlacements_164 rfl 2 rfl ?_
              refine AWT_iload_n (pc := 165) dX9_findPlacements_165 rfl 3 rfl ?_
              refine AWT_iconst (pc := 166) (v := 2) dX9_findPlacements_166 (by decide) ?_
              refine AWT_iconst (pc := 167) (v := 4) dX9_findPlacements_167 (by decide) ?_
              have p25 := hv.1
              have hv := hv.2
              have p26 := hv.1
              have hv := hv.2
              have p27 := hv.1
              have hv := hv.2
              refine AWT_callV (M' := MX9_ofStep) (pc := 168) [.int p, .int 2, .int 4] [.int (b + (oS g p 1 0))] rfl nmX9_ofStep ⟨rfl, rfl⟩ (ML.o q1314) q1316 qs51 q82 q1317 dX9_findPlacements_168 rfl rfl (Nat.le_of_ble_eq_true rfl) ⟨Nat.le_of_ble_eq_true rfl, Nat.le_of_ble_eq_true rfl⟩ (mcX9_ofStep f g e p 2 4 p25 p26 p27) ?_
              rintro _ _ _ _ ⟨rfl, rfl, rfl, rfl⟩
              refine AWT_goto (pc := 171) (tgt := 175) dX9_findPlacements_171 (by decide) ?_
              refine AWT_iadd (pc := 175) dX9_findPlacements_175 ?_
              refine AWT_istore (pc := 176) (lv' := [(8, .int ((b + (oS g p 1 0)) + (oS g p 2 4))), (7, .int (b + (oS g p 1 0))), (6, .int (sS f g p 1 b)), (0, .ref o), (1, .int p), (2, .int a), (3, .int x), (4, .int ea), (5, .int b)]) dX9_findPlacements_176 (by decide) rfl ?_
              refine AWT_lv (lv' := [(0, .ref o), (1, .int p), (2, .int a), (3, .int x), (4, .int ea), (5, .int b), (6, .int (sS f g p 1 b)), (7, .int (b + (oS g p 1 0))), (8, .int ((b + (oS g p 1 0)) + (oS g p 2 4)))]) [3, 4, 5, 6, 7, 8, 2, 1, 0] rfl ?_
              exact hv
          · have hv := hv.2 c19
            refine AWT_aload_n (pc := 132) dX9_findPlacements_132 rfl 1 rfl ?_
            refine AWT_iload_n (pc := 133) dX9_findPlacements_133 rfl 2 rfl ?_
            refine AWT_iload_n (pc := 134) dX9_findPlacements_134 rfl 4 rfl ?_
            refine AWT_iload (pc := 135) dX9_findPlacements_135 0 rfl ?_
            refine AWT_ior (pc := 137) dX9_findPlacements_137 ?_
            have p28 := hv.1
            have hv := hv.2
            refine AWT_callV (M' := MX9_addPlacement) (pc := 138) [.int p, .int (x ||| (sS f g p 1 b))] [] rfl nmX9_addPlacement ⟨rfl, rfl⟩ (ML.o q1330) q1332 qs55 q82 q1333 dX9_findPlacements_138 rfl rfl (Nat.le_of_ble_eq_true rfl) ⟨Nat.le_of_ble_eq_true rfl, Nat.le_of_ble_eq_true rfl⟩ (mcX9_addPlacement f g e p (x ||| (sS f g p 1 b)) p28) ?_
            rintro _ _ _ _ ⟨rfl, rfl, rfl, rfl⟩
            refine AWT_iload (pc := 141) dX9_findPlacements_141 6 rfl ?_
            refine AWT_aload_n (pc := 143) dX9_findPlacements_143 rfl 1 rfl ?_
            refine AWT_iload_n (pc := 144) dX9_findPlacements_144 rfl 2 rfl ?_
            refine AWT_iconst (pc := 145) (v := 1) dX9_findPlacements_145 (by decide) ?_
            refine AWT_iconst (pc := 146) (v := 0) dX9_findPlacements_146 (by decide) ?_
            have p29 := hv.1
            have hv := hv.2
            have p30 := hv.1
            have hv := hv.2
            have p31 := hv.1
            have hv := hv.2
            refine AWT_callV (M' := MX9_ofStep) (pc := 147) [.int p, .int 1, .int 0] [.int b] rfl nmX9_ofStep ⟨rfl, rfl⟩ (ML.o q1314) q1316 qs51 q82 q1317 dX9_findPlacements_147 rfl rfl (Nat.le_of_ble_eq_true rfl) ⟨Nat.le_of_ble_eq_true rfl, Nat.le_of_ble_eq_true rfl⟩ (mcX9_ofStep f (addP f g p (x ||| (sS f g p 1 b))) e p 1 0 p29 p30 p31) ?_
            rintro _ _ _ _ ⟨rfl, rfl, rfl, rfl⟩
            refine AWT_iadd (pc := 150) dX9_findPlacements_150 ?_
            refine AWT_istore (pc := 151) (lv' := [(7, .int (b + (oS (addP f g p (x ||| (sS f g p 1 b))) p 1 0))), (6, .int (sS f g p 1 b)), (0, .ref o), (1, .int p), (2, .int a), (3, .int x), (4, .int ea), (5, .int b)]) dX9_findPlacements_151 (by decide) rfl ?_
            refine AWT_iload (pc := 153) dX9_findPlacements_153 0 rfl ?_
            refine AWT_aload_n (pc := 155) dX9_findPlacements_155 rfl 2 rfl ?_
            refine AWT_iload_n (pc := 156) dX9_findPlacements_156 rfl 3 rfl ?_
            have p32 := hv.1
            have hv := hv.2
            refine AWT_callV (M' := MX9_stepsOf) (pc := 157) [.int p] [.int (b + (oS (addP f g p (x ||| (sS f g p 1 b))) p 1 0))] rfl nmX9_stepsOf ⟨rfl, rfl⟩ (ML.o q1326) q1328 qs54 q82 q1329 dX9_findPlacements_157 rfl rfl (Nat.le_of_ble_eq_true rfl) ⟨Nat.le_of_ble_eq_true rfl, Nat.le_of_ble_eq_true rfl⟩ (mcX9_stepsOf f (addP f g p (x ||| (sS f g p 1 b))) e p p32) ?_
            rintro _ _ _ _ ⟨rfl, rfl, rfl, rfl⟩
            refine AWT_iconst (pc := 160) (v := 2) dX9_findPlacements_160 (by decide) ?_
            refine AWT_icmp_le (pc := 161) (tgt := 174) dX9_findPlacements_161 (by decide) (fun c33 => ?_) (fun c33 => ?_)
            · have hv := hv.1 c33
              refine AWT_iconst (pc := 174) (v := 0) dX9_findPlacements_174 (by decide) ?_
              refine AWT_iadd (pc := 175) dX9_findPlacements_175 ?_
              refine AWT_istore (pc := 176) (lv' := [(8, .int ((b + (oS (addP f g p (x ||| (sS f g p 1 b))) p 1 0)) + 0)), (7, .int (b + (oS (addP f g p (x ||| (sS f g p 1 b))) p 1 0))), (6, .int (sS f g p 1 b)), (0, .ref o), (1, .int p), (2, .int a), (3, .int x), (4, .int ea), (5, .int b)]) dX9_findPlacements_176 (by decide) rfl ?_
              refine AWT_lv (lv' := [(0, .ref o), (1, .int p), (2, .int a), (3, .int x), (4, .int ea), (5, .int b), (6, .int (sS f g p 1 b)), (7, .int (b + (oS (addP f g p (x ||| (sS f g p 1 b))) p 1 0))), (8, .int ((b + (oS (addP f g p (x ||| (sS f g p 1 b))) p 1 0)) + 0))]) [3, 4, 5, 6, 7, 8, 2, 1, 0] rfl ?_
              exact hv
            · have hv := hv.2 c33
              refine AWT_aload_n (pc := 164) dX9_findPlacements_164 rfl 2 rfl ?_
              refine AWT_iload_n (pc := 165) dX9_findPlacements_165 rfl 3 rfl ?_
              refine AWT_iconst (pc := 166) (v := 2) dX9_findPlacements_166 (by decide) ?_
              refine AWT_iconst (pc := 167) (v := 4) dX9_findPlacements_167 (by decide) ?_
              have p34 := hv.1
              have hv := hv.2
              have p35 := hv.1
              have hv := hv.2
              have p36 := hv.1
              have hv := hv.2
              refine AWT_callV (M' := MX9_ofStep) (pc := 168) [.int p, .int 2, .int 4] [.int (b + (oS (addP f g p (x ||| (sS f g p 1 b))) p 1 0))] rfl nmX9_ofStep ⟨rfl, rfl⟩ (ML.o q1314) q1316 qs51 q82 q1317 dX9_findPlacements_168 rfl rfl (Nat.le_of_ble_eq_true rfl) ⟨Nat.le_of_ble_eq_true rfl, Nat.le_of_ble_eq_true rfl⟩ (mcX9_ofStep f (addP f g p (x ||| (sS f g p 1 b))) e p 2 4 p34 p35 p36) ?_
              rintro _ _ _ _ ⟨rfl, rfl, rfl, rfl⟩
              refine AWT_goto (pc := 171) (tgt := 175) dX9_findPlacements_171 (by decide) ?_
              refine AWT_iadd (pc := 175) dX9_findPlacements_175 ?_
              refine AWT_istore (pc := 176) (lv' := [(8, .int ((b + (oS (addP f g p (x ||| (sS f g p 1 b))) p 1 0)) + (oS (addP f g p (x ||| (sS f g p 1 b))) p 2 4))), (7, .int (b + (oS (addP f g p (x ||| (sS f g p 1 b))) p 1 0))), (6, .int (sS f g p 1 b)), (0, .ref o), (1, .int p), (2, .int a), (3, .int x), (4, .int ea), (5, .int b)]) dX9_findPlacements_176 (by decide) rfl ?_
              refine AWT_lv (lv' := [(0, .ref o), (1, .int p), (2, .int a), (3, .int x), (4, .int ea), (5, .int b), (6, .int (sS f g p 1 b)), (7, .int (b + (oS (addP f g p (x ||| (sS f g p 1 b))) p 1 0))), (8, .int ((b + (oS (addP f g p (x ||| (sS f g p 1 b))) p 1 0)) + (oS (addP f g p (x ||| (sS f g p 1 b))) p 2 4)))]) [3, 4, 5, 6, 7, 8, 2, 1, 0] rfl ?_
              exact hv
theorem vcX9_findPlacements_178 {G : Gl} {o : Nat} {ad : Nat → Nat} {h0 : Hp} {Q : Option Value → Tf → Tg → Te → Prop} (f : Tf) (g : Tg) (e : Te) (p : Int32) (a : Int32) (x : Int32) (ea : Int32) (b : Int32) (y : Int32) (eb : Int32) (c : Int32) (hv : ((y = 0 → AWT G o ad h0 MX9_findPlacements Q f g e 80 [(0, .ref o), (1, .int p), (2, .int a), (3, .int x), (4, .int ea), (5, .int (b + 1))] []) ∧ (¬ y = 0 → (vp_in p 5) ∧ (((sOf g p) ≤ 2 → AWT G o ad h0 MX9_findPlacements Q f g e 80 [(0, .ref o), (1, .int p), (2, .int a), (3, .int x), (4, .int ea), (5, .int (b + 1))] []) ∧ (¬ (sOf g p) ≤ 2 → (vp_in p 5) ∧ (vp_in 2 3) ∧ (vp_in 5 6) ∧ (((eb + (oS g p 2 5)) < c → AWT G o ad h0 MX9_findPlacements Q f g e 80 [(0, .ref o), (1, .int p), (2, .int a), (3, .int x), (4, .int ea), (5, .int (b + 1))] []) ∧ (¬ (eb + (oS g p 2 5)) < c → (∃ P J A : Nat, p = nI P ∧ 2 = nI J ∧ c = nI A ∧ A < 100 ∧ PP f g P ∧ J < 3 ∧ StOK g P J) ∧ (((sS f g p 2 c) = 0 → AWT G o ad h0 MX9_findPlacements Q f g e 178 [(0, .ref o), (1, .int p), (2, .int a), (3, .int x), (4, .int ea), (5, .int b), (6, .int y), (7, .int eb), (8, .int (c + 1))] []) ∧ (¬ (sS f g p 2 c) = 0 → (∃ P c : Nat, p = nI P ∧ P < 5 ∧ g 23 P = nI c ∧ c < 200) ∧ AWT G o ad h0 MX9_findPlacements Q f (addP f g p ((x ||| y) ||| (sS f g p 2 c))) e 178 [(0, .ref o), (1, .int p), (2, .int a), (3, .int x), (4, .int ea), (5, .int b), (6, .int y), (7, .int eb), (8, .int (c + 1))] []))))))))) :
    AWT G o ad h0 MX9_findPlacements Q f g e 178 [(0, .ref o), (1, .int p), (2, .int a), (3, .int x), (4, .int ea), (5, .int b), (6, .int y), (7, .int eb), (8, .int c)] [] := by
  refine AWT_iload (pc := 178) dX9_findPlacements_178 6 rfl ?_
  refine AWT_if_eq (pc := 180) (tgt := 240) dX9_findPlacements_180 (by decide) (fun c1 => ?_) (fun c1 => ?_)
  · have hv := hv.1 c1
    refine AWT_iinc (pc := 240) (v := b + 1) (lv' := [(5, .int (b + 1)), (0, .ref o), (1, .int p), (2, .int a), (3, .int x), (4, .int ea), (6, .int y), (7, .int eb), (8, .int c)]) dX9_findPlacements_240 5 rfl rfl (by decide) rfl ?_
    refine AWT_goto (pc := 243) (tgt := 80) dX9_findPlacements_243 (by decide) ?_
    refine AWT_lv (lv' := [(0, .ref o), (1, .int p), (2, .int a), (3, .int x), (4, .int ea), (5, .int (b + 1))]) [1, 2, 3, 4, 5, 0] rfl ?_
    exact hv
  · have hv := hv.2 c1
    refine AWT_aload_n (pc := 183) dX9_findPlacements_183 rfl 0 rfl ?_
    refine AWT_iload_n (pc := 184) dX9_findPlacements_184 rfl 1 rfl ?_
    have p2 := hv.1
    have hv := hv.2
    refine AWT_callV (M' := MX9_stepsOf) (pc := 185) [.int p] [] rfl nmX9_stepsOf ⟨rfl, rfl⟩ (ML.o q1326) q1328 qs54 q82 q1329 dX9_findPlacements_185 rfl rfl (Nat.le_of_ble_eq_true rfl) ⟨Nat.le_of_ble_eq_true rfl, Nat.le_of_ble_eq_true rfl⟩ (mcX9_stepsOf f g e p p2) ?_
    rintro _ _ _ _ ⟨rfl, rfl, rfl, rfl⟩
    refine AWT_iconst (pc := 188) (v := 2) dX9_findPlacements_188 (by decide) ?_
    refine AWT_icmp_le (pc := 189) (tgt := 240) dX9_findPlacements_189 (by decide) (fun c3 => ?_) (fun c3 => ?_)
    · have hv := hv.1 c3
      refine AWT_iinc (pc := 240) (v := b + 1) (lv' := [(5, .int (b + 1)), (0, .ref o), (1, .int p), (2, .int a), (3, .int x), (4, .int ea), (6, .int y), (7, .int eb), (8, .int c)]) dX9_findPlacements_240 5 rfl rfl (by decide) rfl ?_
      refine AWT_goto (pc := 243) (tgt := 80) dX9_findPlacements_243 (by decide) ?_
      refine AWT_lv (lv' := [(0, .ref o), (1, .int p), (2, .int a), (3, .int x), (4, .int ea), (5, .int (b + 1))]) [1, 2, 3, 4, 5, 0] rfl ?_
      exact hv
    · have hv := hv.2 c3
      refine AWT_iload (pc := 192) dX9_findPlacements_192 8 rfl ?_
      refine AWT_iload (pc := 194) dX9_findPlacements_194 7 rfl ?_
      refine AWT_aload_n (pc := 196) dX9_findPlacements_196 rfl 0 rfl ?_
      refine AWT_iload_n (pc := 197) dX9_findPlacements_197 rfl 1 rfl ?_
      refine AWT_iconst (pc := 198) (v := 2) dX9_findPlacements_198 (by decide) ?_
      refine AWT_iconst (pc := 199) (v := 5) dX9_findPlacements_199 (by decide) ?_
      have p4 := hv.1
      have hv := hv.2
      have p5 := hv.1
      have hv := hv.2
      have p6 := hv.1
      have hv := hv.2
      refine AWT_callV (M' := MX9_ofStep) (pc := 200) [.int p, .int 2, .int 5] [.int eb, .int c] rfl nmX9_ofStep ⟨rfl, rfl⟩ (ML.o q1314) q1316 qs51 q82 q1317 dX9_findPlacements_200 rfl rfl (Nat.le_of_ble_eq_true rfl) ⟨Nat.le_of_ble_eq_true rfl, Nat.le_of_ble_eq_true rfl⟩ (mcX9_ofStep f g e p 2 5 p4 p5 p6) ?_
      rintro _ _ _ _ ⟨rfl, rfl, rfl, rfl⟩
      refine AWT_iadd (pc := 203) dX9_findPlacements_203 ?_
      refine AWT_icmp_gt (pc := 204) (tgt := 240) dX9_findPlacements_204 (by decide) (fun c7 => ?_) (fun c7 => ?_)
      · have hv := hv.1 c7
        refine AWT_iinc (pc := 240) (v := b + 1) (lv' := [(5, .int (b + 1)), (0, .ref o), (1, .int p), (2, .int a), (3, .int x), (4, .int ea), (6, .int y), (7, .int eb), (8, .int c)]) dX9_findPlacements_240 5 rfl rfl (by decide) rfl ?_
        refine AWT_goto (pc := 243) (tgt := 80) dX9_findPlacements_243 (by decide) ?_
        refine AWT_lv (lv' := [(0, .ref o), (1, .int p), (2, .int a), (3, .int x), (4, .int ea), (5, .int (b + 1))]) [1, 2, 3, 4, 5, 0] rfl ?_
        exact hv
      · have hv := hv.2 c7
        refine AWT_aload_n (pc := 207) dX9_findPlacements_207 rfl 0 rfl ?_
        refine AWT_iload_n (pc := 208) dX9_findPlacements_208 rfl 1 rfl ?_
        refine AWT_iconst (pc := 209) (v := 2) dX9_findPlacements_209 (by decide) ?_
        refine AWT_iload (pc := 210) dX9_findPlacements_210 8 rfl ?_
        have p8 := hv.1
        have hv := hv.2
        refine AWT_callV (M' := MX9_stepSlots) (pc := 212) [.int p, .int 2, .int c] [] rfl nmX9_stepSlots ⟨rfl, rfl⟩ (ML.o q1310) q1312 qs50 q82 q1313 dX9_findPlacements_212 rfl rfl (Nat.le_of_ble_eq_true rfl) ⟨Nat.le_of_ble_eq_true rfl, Nat.le_of_ble_eq_true rfl⟩ (mcX9_stepSlots f g e p 2 c p8) ?_
        rintro _ _ _ _ ⟨rfl, rfl, rfl, rfl⟩
        refine AWT_istore (pc := 215) (lv' := [(9, .int (sS f g p 2 c)), (0, .ref o), (1, .int p), (2, .int a), (3, .int x), (4, .int ea), (5, .int b), (6, .int y), (7, .int eb), (8, .int c)]) dX9_findPlacements_215 (by decide) rfl ?_
        refine AWT_iload (pc := 217) dX9_findPlacements_217 0 rfl ?_
        refine AWT_if_eq (pc := 219) (tgt := 234) dX9_findPlacements_219 (by decide) (fun c9 => ?_) (fun c9 => ?_)
        · have hv := hv.1 c9
          refine AWT_iinc (pc := 234) (v := c + 1) (lv' := [(8, .int (c + 1)), (9, .int (sS f g p 2 c)), (0, .ref o), (1, .int p), (2, .int a), (3, .int x), (4, .int ea), (5, .int b), (6, .int y), (7, .int eb)]) dX9_findPlacements_234 9 rfl rfl (by decide) rfl ?_
          refine AWT_goto (pc := 237) (tgt := 178) dX9_findPlacements_237 (by decide) ?_
          refine AWT_lv (lv' := [(0, .ref o), (1, .int p), (2, .int a), (3, .int x), (4, .int ea), (5, .int b), (6, .int y), (7, .int eb), (8, .int (c + 1))]) [2, 3, 4, 5, 6, 7, 8, 9, 0] rfl ?_
          exact hv
        · have hv := hv.2 c9
          refine AWT_aload_n (pc := 222) dX9_findPlacements_222 rfl 1 rfl ?_
          refine AWT_iload_n (pc := 223) dX9_findPlacements_223 rfl 2 rfl ?_
          refine AWT_iload_n (pc := 224) dX9_findPlacements_224 rfl 4 rfl ?_
          refine AWT_iload (pc := 225) dX9_findPlacements_225 7 rfl ?_
          refine AWT_ior (pc := 227) dX9_findPlacements_227 ?_
          refine AWT_iload (pc := 228) dX9_findPlacements_228 0 rfl ?_
          refine AWT_ior (pc := 230) dX9_findPlacements_230 ?_
          have p10 := hv.1
          have hv := hv.2
          refine AWT_callV (M' := MX9_addPlacement) (pc := 231) [.int p, .int ((x ||| y) ||| (sS f g p 2 c))] [] rfl nmX9_addPlacement ⟨rfl, rfl⟩ (ML.o q1330) q1332 qs55 q82 q1333 dX9_findPlacements_231 rfl rfl (Nat.le_of_ble_eq_true rfl) ⟨Nat.le_of_ble_eq_true rfl, Nat.le_of_ble_eq_true rfl⟩ (mcX9_addPlacement f g e p ((x ||| y) ||| (sS f g p 2 c)) p10) ?_
          rintro _ _ _ _ ⟨rfl, rfl, rfl, rfl⟩
          refine AWT_iinc (pc := 234) (v := c + 1) (lv' := [(8, .int (c + 1)), (9, .int (sS f g p 2 c)), (0, .ref o), (1, .int p), (2, .int a), (3, .int x), (4, .int ea), (5, .int b), (6, .int y), (7, .int eb)]) dX9_findPlacements_234 9 rfl rfl (by decide) rfl ?_
          refine AWT_goto (pc := 237) (tgt := 178) dX9_findPlacements_237 (by decide) ?_
          refine AWT_lv (lv' := [(0, .ref o), (1, .int p), (2, .int a), (3, .int x), (4, .int ea), (5, .int b), (6, .int y), (7, .int eb), (8, .int (c + 1))]) [2, 3, 4, 5, 6, 7, 8, 9, 0] rfl ?_
          exact hv
theorem sS_n (f : Tf) (g : Tg) (p j a : Nat) {J : Int32} (hJ : J = nI j := by rfl) (hp : p < 100 := by omega) (hj : j < 3 := by omega) (ha : a < 1000 := by omega) : sS f g (nI p) J (nI a) = if okS f g p j a then nI (mkS a (stN g p j 0)) else 0 := by
  subst hJ
  unfold sS
  rw [nc p, nc j, nc a]
theorem okS_lt {f : Tf} {g : Tg} {p j a n k : Nat} (h : okS f g p j a = true) (hn : nN f = n) (hk : stN g p j 0 = k) : a + k ≤ n := by
  unfold okS at h
  rw [Bool.and_eq_true, decide_eq_true_eq, hn, hk] at h
  exact h.1
theorem mk_ne {a k n : Nat} (h : a + k ≤ n) (hn : n ≤ 12) (h1 : 1 ≤ k) (h4 : k ≤ 4) : ¬ nI (mkS a k) = 0 := by
  have := mkS_n0 a (by omega) k (by omega) (by omega)
  exact nI_ne0 (by omega) (by omega)

/-- the third step's loop -/
theorem fp178 {G : Gl} {o : Nat} {ad : Nat → Nat} {h0 : Hp} {Q : Option Value → Tf → Tg → Te → Prop} {f : Tf} {g : Tg} {e : Te} {p a x ea b m eb : Nat} {A : List Nat} (hP : PP f g p) (hs : stK g p = 3) (heb : eb < 80) (hA : A.length + 4 < 200) (hm : ¬ nI m = 0) (hb : b < 1000)
    (k : AWT G o ad h0 MX9_findPlacements Q f (putL f g p (A ++ fl (c3 f g p (x ||| m) eb) (stN g p 2 5 + 1 - stN g p 2 4))) e 80 [(0, .ref o), (1, .int (nI p)), (2, .int (nI a)), (3, .int (nI x)), (4, .int (nI ea)), (5, .int (nI (b + 1)))] []) :
    AWT G o ad h0 MX9_findPlacements Q f (putL f g p A) e 178 [(0, .ref o), (1, .int (nI p)), (2, .int (nI a)), (3, .int (nI x)), (4, .int (nI ea)), (5, .int (nI b)), (6, .int (nI m)), (7, .int (nI eb)), (8, .int (nI (eb + stN g p 2 4)))] [] := by
  have hp5 := hP.1
  have hp : vp_in (nI p) 5 := vp_in_nI hp5 (by decide)
  obtain ⟨n, s, hn, hn4, hn12, hnN, hsv, hsK, hs1, hs3, hst, hk, hl⟩ := hP.nums
  have hs' : s = 3 := by omega
  subst hs'
  obtain ⟨l, mo, e4, e4', hl6, e5, e5', hlm, hml⟩ := hl 2 (by omega) (by omega)
  obtain ⟨k2, ek, ek', hk1, hk4⟩ := hk 2 (by omega)
  rw [e4', e5'] at k
  rw [e4']
  have j2 : vp_in 2 3 := pk_in 2 3 (by decide)
  have q5 : vp_in 5 6 := pk_in 5 6 (by decide)
  have base : AWT G o ad h0 MX9_findPlacements Q f (putL f g p (A ++ fl (c3 f g p (x ||| m) eb) 0)) e 178 [(0, .ref o), (1, .int (nI p)), (2, .int (nI a)), (3, .int (nI x)), (4, .int (nI ea)), (5, .int (nI b)), (6, .int (nI m)), (7, .int (nI eb)), (8, .int (nI (eb + l + 0)))] [] := by
    refine loopUp (A := fun i => AWT G o ad h0 MX9_findPlacements Q f (putL f g p (A ++ fl (c3 f g p (x ||| m) eb) i)) e 178 [(0, .ref o), (1, .int (nI p)), (2, .int (nI a)), (3, .int (nI x)), (4, .int (nI ea)), (5, .int (nI b)), (6, .int (nI m)), (7, .int (nI eb)), (8, .int (nI (eb + l + i)))] []) (mo + 1 - l) ?_ ?_ 0 (by omega)
    · refine vcX9_findPlacements_178 _ _ e _ _ _ _ _ _ _ _ (br_f hm ⟨hp, ?_⟩)
      rw [sOf_put, sOf_n g p (by omega), hsv]
      refine br_f (by decide) ⟨hp, j2, q5, ?_⟩
      rw [oS_put, oS_n g p 2 5, e5, nI_add]
      refine pk_lt (eb + mo) (eb + l + (mo + 1 - l)) (fun _ => ?_) (fun z => by omega)
      rw [nI_1]
      exact k
    · intro i hi ih
      have hlen := fl_len (F := c3 f g p (x ||| m) eb) (c := 1) i (fun i _ => c3_len f g p _ _ i)
      refine vcX9_findPlacements_178 _ _ e _ _ _ _ _ _ _ _ (br_f hm ⟨hp, ?_⟩)
      rw [sOf_put, sOf_n g p (by omega), hsv]
      refine br_f (by decide) ⟨hp, j2, q5, ?_⟩
      rw [oS_put, oS_n g p 2 5, e5, nI_add]
      refine pk_lt (eb + mo) (eb + l + i) (fun z => by omega) (fun _ => ⟨⟨p, 2, eb + l + i, rfl, rfl, rfl, by omega, PP_put hP, by decide, StOK_put (hst 2 (by decide))⟩, ?_⟩)
      rw [sS_put, sS_n f g p 2 (eb + l + i), ek']
      by_cases c : okS f g p 2 (eb + l + i) = true
      · rw [if_pos c]
        have hle := okS_lt c hnN ek'
        refine br_f (mk_ne hle hn12 hk1 hk4) ⟨⟨p, (A ++ fl (c3 f g p (x ||| m) eb) i).length, rfl, hp5, putL_23 .., by rw [List.length_append]; omega⟩, ?_⟩
        rw [nx_or, nx_or, putL_add f g p _ _ hp5 (by rw [List.length_append]; omega), nI_1]
        have e9 : A ++ fl (c3 f g p (x ||| m) eb) i ++ [x ||| m ||| mkS (eb + l + i) k2] = A ++ fl (c3 f g p (x ||| m) eb) (i + 1) := by
          rw [fl_s, List.append_assoc]
          unfold c3
          rw [e4', if_pos c, ek']
        rw [e9]
        exact ih
      · rw [if_neg c]
        refine br_t rfl ?_
        have e9 : A ++ fl (c3 f g p (x ||| m) eb) i = A ++ fl (c3 f g p (x ||| m) eb) (i + 1) := by
          rw [fl_s]
          unfold c3
          rw [e4', if_neg c, List.append_nil]
        rw [e9, nI_1]
        exact ih
  rw [fl_0, List.append_nil] at base
  exact base
/-- the second step's loop -/
theorem fp80 {G : Gl} {o : Nat} {ad : Nat → Nat} {h0 : Hp} {Q : Option Value → Tf → Tg → Te → Prop} {f : Tf} {g : Tg} {e : Te} {p a x ea : Nat} {A : List Nat} (hP : PP f g p) (hs : 2 ≤ stK g p) (hea : ea < 40) (hA : A.length + 20 < 200) (hx : ¬ nI x = 0) (ha : a < 100)
    (k : AWT G o ad h0 MX9_findPlacements Q f (putL f g p (A ++ fl (c2 f g p x ea) (stN g p 1 5 + 1 - stN g p 1 4))) e 9 [(0, .ref o), (1, .int (nI p)), (2, .int (nI (a + 1)))] []) :
    AWT G o ad h0 MX9_findPlacements Q f (putL f g p A) e 80 [(0, .ref o), (1, .int (nI p)), (2, .int (nI a)), (3, .int (nI x)), (4, .int (nI ea)), (5, .int (nI (ea + stN g p 1 4)))] [] := by
  have hp5 := hP.1
  have hp : vp_in (nI p) 5 := vp_in_nI hp5 (by decide)
  obtain ⟨n, s, hn, hn4, hn12, hnN, hsv, hsK, hs1, hs3, hst, hk, hl⟩ := hP.nums
  obtain ⟨l, mo, e4, e4', hl6, e5, e5', hlm, hml⟩ := hl 1 (by omega) (by omega)
  obtain ⟨k2, ek, ek', hk1, hk4⟩ := hk 1 (by omega)
  have hc2 : stN g p 2 5 + 1 - stN g p 2 4 ≤ 4 ∨ stK g p = 2 := by
    rcases (show s = 2 ∨ s = 3 by omega) with z | z
    · right; omega
    · left
      obtain ⟨l2, m2, -, z4, -, -, z5, z6, z7⟩ := hl 2 (by omega) (by omega)
      omega
  rw [e4', e5'] at k
  rw [e4']
  have j1 : vp_in 1 3 := pk_in 1 3 (by decide)
  have j2 : vp_in 2 3 := pk_in 2 3 (by decide)
  have q0 : vp_in 0 6 := pk_in 0 6 (by decide)
  have q4 : vp_in 4 6 := pk_in 4 6 (by decide)
  have q5 : vp_in 5 6 := pk_in 5 6 (by decide)
  have hs1' : ¬ nI s ≤ 1 := fun z => by have := (nI_leI (b := 1) (by omega) (by decide)).mp z; omega
  have base : AWT G o ad h0 MX9_findPlacements Q f (putL f g p (A ++ fl (c2 f g p x ea) 0)) e 80 [(0, .ref o), (1, .int (nI p)), (2, .int (nI a)), (3, .int (nI x)), (4, .int (nI ea)), (5, .int (nI (ea + l + 0)))] [] := by
    refine loopUp (A := fun i => AWT G o ad h0 MX9_findPlacements Q f (putL f g p (A ++ fl (c2 f g p x ea) i)) e 80 [(0, .ref o), (1, .int (nI p)), (2, .int (nI a)), (3, .int (nI x)), (4, .int (nI ea)), (5, .int (nI (ea + l + i)))] []) (mo + 1 - l) ?_ ?_ 0 (by omega)
    · refine vcX9_findPlacements_80 _ _ e _ _ _ _ _ (br_f hx ⟨hp, ?_⟩)
      rw [sOf_put, sOf_n g p (by omega), hsv]
      refine br_f hs1' ⟨hp, j1, q5, ?_⟩
      rw [oS_put, oS_n g p 1 5, e5, nI_add]
      refine pk_lt (ea + mo) (ea + l + (mo + 1 - l)) (fun _ => ?_) (fun z => by omega)
      rw [nI_1]
      exact k
    · intro i hi ih
      have hlen := fl_len (F := c2 f g p x ea) (c := 4) i (fun i _ => c2_len f g p _ _ i hc2)
      have hlen2 : (A ++ fl (c2 f g p x ea) i).length + 4 < 200 := by rw [List.length_append]; omega
      refine vcX9_findPlacements_80 _ _ e _ _ _ _ _ (br_f hx ⟨hp, ?_⟩)
      rw [sOf_put, sOf_n g p (by omega), hsv]
      refine br_f hs1' ⟨hp, j1, q5, ?_⟩
      rw [oS_put, oS_n g p 1 5, e5, nI_add]
      refine pk_lt (ea + mo) (ea + l + i) (fun z => by omega) (fun _ => ⟨⟨p, 1, ea + l + i, rfl, rfl, rfl, by omega, PP_put hP, by decide, StOK_put (hst 1 (by omega))⟩, ?_⟩)
      rw [sS_put, sS_n f g p 1 (ea + l + i), ek']
      by_cases c : okS f g p 1 (ea + l + i) = true
      · rw [if_pos c]
        have hle := okS_lt c hnN ek'
        have hne := mk_ne hle hn12 hk1 hk4
        refine br_f hne ⟨hp, ?_⟩
        rcases (show s = 2 ∨ s = 3 by omega) with z | z
        · subst z
          refine ⟨fun z => absurd rfl z, fun _ => ⟨⟨p, _, rfl, hp5, putL_23 .., by omega⟩, ?_⟩⟩
          rw [nx_or, putL_add f g p _ _ hp5 (by omega), oS_put, oS_n g p 1 0, ek, nI_add, sOf_put, sOf_n g p (by omega), hsv]
          have e9 : A ++ fl (c2 f g p x ea) i ++ [x ||| mkS (ea + l + i) k2] = A ++ fl (c2 f g p x ea) (i + 1) := by
            rw [fl_s, List.append_assoc]
            unfold c2
            rw [e4', if_pos c, ek', if_pos hsK]
          rw [e9]
          refine ⟨hp, j1, q0, hp, br_t (by decide) ?_⟩
          refine vcX9_findPlacements_178 _ _ e _ _ _ _ _ _ _ _ (br_f hne ⟨hp, ?_⟩)
          rw [sOf_put, sOf_n g p (by omega), hsv]
          refine br_t (by decide) ?_
          rw [nI_1]
          exact ih
        · subst z
          refine ⟨fun _ => ⟨hp, j1, q0, hp, br_f (by decide) ⟨hp, j2, q4, ?_⟩⟩, fun z => absurd z (by decide)⟩
          obtain ⟨l2, m2, f4, f4', hl62, f5, f5', hlm2, hml2⟩ := hl 2 (by omega) (by omega)
          rw [oS_n g p 1 0, ek, oS_n g p 2 4, f4, nI_add, nI_add]
          have := fp178 (Q := Q) (G := G) (o := o) (ad := ad) (h0 := h0) (e := e) (a := a) (x := x) (ea := ea) (b := ea + l + i) (m := mkS (ea + l + i) k2) (eb := ea + l + i + k2) (A := A ++ fl (c2 f g p x ea) i) hP hsK (by omega) hlen2 hne (by omega) ?_
          · rw [f4'] at this
            exact this
          · have e9 : A ++ fl (c2 f g p x ea) i ++ fl (c3 f g p (x ||| mkS (ea + l + i) k2) (ea + l + i + k2)) (stN g p 2 5 + 1 - stN g p 2 4) = A ++ fl (c2 f g p x ea) (i + 1) := by
              rw [fl_s (c2 f g p x ea), List.append_assoc]
              congr 2
              unfold c2
              rw [e4', if_pos c, ek', if_neg (by omega)]
            rw [e9]
            exact ih
      · rw [if_neg c]
        refine br_t rfl ?_
        have e9 : A ++ fl (c2 f g p x ea) i = A ++ fl (c2 f g p x ea) (i + 1) := by
          rw [fl_s]
          unfold c2
          rw [e4', if_neg c, List.append_nil]
        rw [e9]
        have fin : ∀ cc : Int32, AWT G o ad h0 MX9_findPlacements Q f (putL f g p (A ++ fl (c2 f g p x ea) (i + 1))) e 178 [(0, .ref o), (1, .int (nI p)), (2, .int (nI a)), (3, .int (nI x)), (4, .int (nI ea)), (5, .int (nI (ea + l + i))), (6, .int 0), (7, .int (nI (ea + l + i) + oS g (nI p) 1 0)), (8, .int cc)] [] := by
          intro cc
          refine vcX9_findPlacements_178 _ _ e _ _ _ _ _ _ _ _ (br_t rfl ?_)
          rw [nI_1]
          exact ih
        exact ⟨hp, j1, q0, hp, fun _ => fin _, fun _ => ⟨hp, j2, q4, fin _⟩⟩
  rw [fl_0, List.append_nil] at base
  exact base
theorem mcX9_findPlacements {G : Gl} {o : Nat} {ad : Nat → Nat} (f : Tf) (g : Tg) (e : Te) (p : Int32) (h1 : ∃ P : Nat, p = nI P ∧ PP f g P) : MCT G o ad MX9_findPlacements [.ref o, .int p] f g e (fun v0 f1 g1 e1 => v0 = none ∧ f = f1 ∧ putL f g p.toNatClampNeg (PL f g p.toNatClampNeg) = g1 ∧ e = e1) := by
  obtain ⟨p, rfl, hP⟩ := h1
  refine MCT.of ⟨rfl, rfl⟩ (by decide) (Nat.le_of_ble_eq_true rfl) rfl (fun h0 => vcX9_findPlacements_0 f g e _ ?_)
  have hp5 := hP.1
  have hp : vp_in (nI p) 5 := vp_in_nI hp5 (by decide)
  refine ⟨hp, ?_⟩
  rw [nc p, ← putL_0 f g p]
  obtain ⟨n, s, hn, hn4, hn12, hnN, hsv, hsK, hs1, hs3, hst, hk, hl⟩ := hP.nums
  obtain ⟨k2, ek, ek', hk1, hk4⟩ := hk 0 (by omega)
  have hc1 : stK g p = 1 ∨ ((stN g p 2 5 + 1 - stN g p 2 4 ≤ 4 ∨ stK g p = 2) ∧ stN g p 1 5 + 1 - stN g p 1 4 ≤ 4) := by
    rcases (show s = 1 ∨ s = 2 ∨ s = 3 by omega) with z | z | z
    · left; omega
    · right
      obtain ⟨l2, m2, -, z4, -, -, z5, z6, z7⟩ := hl 1 (by omega) (by omega)
      exact ⟨Or.inr (by omega), by omega⟩
    · right
      obtain ⟨l2, m2, -, z4, -, -, z5, z6, z7⟩ := hl 1 (by omega) (by omega)
      obtain ⟨l3, m3, -, y4, -, -, y5, y6, y7⟩ := hl 2 (by omega) (by omega)
      exact ⟨Or.inl (by omega), by omega⟩
  have j0 : vp_in 0 3 := pk_in 0 3 (by decide)
  have j1 : vp_in 1 3 := pk_in 1 3 (by decide)
  have q0 : vp_in 0 6 := pk_in 0 6 (by decide)
  have q4 : vp_in 4 6 := pk_in 4 6 (by decide)
  have base : AWT G o ad h0 MX9_findPlacements (fun v0 f1 g1 e1 => v0 = none ∧ f = f1 ∧ putL f g p (PL f g p) = g1 ∧ e = e1) f (putL f g p (fl (c1 f g p) 0)) e 9 [(0, .ref o), (1, .int (nI p)), (2, .int (nI 0))] [] := by
    refine loopUp (A := fun a => AWT G o ad h0 MX9_findPlacements (fun v0 f1 g1 e1 => v0 = none ∧ f = f1 ∧ putL f g p (PL f g p) = g1 ∧ e = e1) f (putL f g p (fl (c1 f g p) a)) e 9 [(0, .ref o), (1, .int (nI p)), (2, .int (nI a))] []) n ?_ ?_ 0 (by omega)
    · refine vcX9_findPlacements_9 _ _ e _ _ ?_
      rw [hn]
      refine pk_le n n (fun _ => ⟨rfl, rfl, ?_, rfl⟩) (fun z => by omega)
      unfold PL
      rw [hnN]
    · intro a ha ih
      have hlen := fl_len (F := c1 f g p) (c := 16) a (fun i _ => c1_len f g p i hc1)
      refine vcX9_findPlacements_9 _ _ e _ _ ?_
      rw [hn]
      refine pk_le n a (fun z => by omega) (fun _ => ⟨⟨p, 0, a, rfl, rfl, rfl, by omega, PP_put hP, by decide, StOK_put (hst 0 (by omega))⟩, ?_⟩)
      rw [sS_put, sS_n f g p 0 a, ek', oS_put, oS_n g p 0 0, ek, nI_add, sOf_put, sOf_n g p (by omega), hsv]
      by_cases c : okS f g p 0 a = true
      · rw [if_pos c]
        have hle := okS_lt c hnN ek'
        have hne := mk_ne hle hn12 hk1 hk4
        refine br_f hne ⟨hp, ?_⟩
        rcases (show s = 1 ∨ 2 ≤ s by omega) with z | z
        · subst z
          refine ⟨fun z => absurd rfl z, fun _ => ⟨⟨p, _, rfl, hp5, putL_23 .., by omega⟩, ?_⟩⟩
          rw [putL_add f g p _ _ hp5 (by omega), oS_put, oS_n g p 0 0, ek, nI_add, sOf_put, sOf_n g p (by omega), hsv]
          have e9 : fl (c1 f g p) a ++ [mkS a k2] = fl (c1 f g p) (a + 1) := by
            rw [fl_s]
            unfold c1
            rw [if_pos c, ek', if_pos hsK]
          rw [e9]
          refine ⟨hp, j0, q0, hp, br_t (by decide) ?_⟩
          refine vcX9_findPlacements_80 _ _ e _ _ _ _ _ (br_f hne ⟨hp, ?_⟩)
          rw [sOf_put, sOf_n g p (by omega), hsv]
          refine br_t (by decide) ?_
          rw [nI_1]
          exact ih
        · have hs1' : ¬ nI s ≤ 1 := fun z => by have := (nI_leI (b := 1) (by omega) (by decide)).mp z; omega
          have hs1'' : ¬ nI s = 1 := fun z => by have := (nI_eq (b := 1) (by omega) (by decide)).mp z; omega
          refine ⟨fun _ => ⟨hp, j0, q0, hp, br_f hs1' ⟨hp, j1, q4, ?_⟩⟩, fun z => absurd z hs1''⟩
          obtain ⟨l2, m2, f4, f4', hl62, f5, f5', hlm2, hml2⟩ := hl 1 (by omega) (by omega)
          rw [oS_n g p 1 4, f4, nI_add]
          have := fp80 (Q := (fun v0 f1 g1 e1 => v0 = none ∧ f = f1 ∧ putL f g p (PL f g p) = g1 ∧ e = e1)) (G := G) (o := o) (ad := ad) (h0 := h0) (e := e) (a := a) (x := mkS a k2) (ea := a + k2) (A := fl (c1 f g p) a) hP (by omega) (by omega) (by omega) hne (by omega) ?_
          · rw [f4'] at this
            exact this
          · have e9 : fl (c1 f g p) a ++ fl (c2 f g p (mkS a k2) (a + k2)) (stN g p 1 5 + 1 - stN g p 1 4) = fl (c1 f g p) (a + 1) := by
              rw [fl_s (c1 f g p)]
              congr 1
              unfold c1
              rw [if_pos c, ek', if_neg (by omega)]
            rw [e9]
            exact ih
      · rw [if_neg c]
        refine br_t rfl ?_
        have e9 : fl (c1 f g p) a = fl (c1 f g p) (a + 1) := by
          rw [fl_s]
          unfold c1
          rw [if_neg c, List.append_nil]
        have fin : ∀ cc : Int32, AWT G o ad h0 MX9_findPlacements (fun v0 f1 g1 e1 => v0 = none ∧ f = f1 ∧ putL f g p (PL f g p) = g1 ∧ e = e1) f (putL f g p (fl (c1 f g p) a)) e 80 [(0, .ref o), (1, .int (nI p)), (2, .int (nI a)), (3, .int 0), (4, .int (nI (a + k2))), (5, .int cc)] [] := by
          intro cc
          refine vcX9_findPlacements_80 _ _ e _ _ _ _ _ (br_t rfl ?_)
          rw [nI_1, e9]
          exact ih
        exact ⟨hp, j0, q0, hp, fun _ => fin _, fun _ => ⟨hp, j1, q4, fin _⟩⟩
  exact base
