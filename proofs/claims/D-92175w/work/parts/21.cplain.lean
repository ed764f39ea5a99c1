/-! ===== the component: write, erase, worth, next, placements, placement (printed by h21.py) ===== -/
theorem Rel.text {cn : Cn} {c c' : Tg} {f : Tf} {g g' : Tg} (h : Rel cn c f g) (v : Int32) (hc : ∀ b j, b ≠ 12 → ¬ (b = 0 ∧ j = 12) → c' b j = c b j) (h12 : c' 0 12 = v) (hg : ∀ b j, b ≠ 13 → g' b j = g b j) (ht : ∀ i, i < v.toNatClampNeg → c' 12 i = (g' 13 i).toInt8.toInt32) : Rel cn c' (upd f 12 v) g' := by
  obtain ⟨⟨a1, a2, a3, a4, a5, a6, a7, a8, a9, a10, a11⟩, ⟨w1, w2, w3, w4, w5, w6, w7⟩, h1, h2, h3, h4, h5, h6, h7⟩ := h
  have y : ∀ j, j ≠ 12 → c' 0 j = c 0 j := fun j hj => hc 0 j (by decide) (fun w => hj w.2)
  have x : ∀ j, j ≠ 12 → upd f 12 v j = f j := fun j hj => upd_o f v hj
  have y22 : ∀ j, g' 22 j = g 22 j := fun j => hg 22 j (by decide)
  have z : ∀ b j, b ≠ 12 → b ≠ 0 → c' b j = c b j := fun b j h1 h2 => hc b j h1 (fun w => h2 w.1)
  refine ⟨⟨by rw [y _ (by decide), x _ (by decide)]; exact a1, by rw [y _ (by decide), x _ (by decide)]; exact a2, by rw [y _ (by decide), x _ (by decide)]; exact a3, by rw [y _ (by decide), x _ (by decide)]; exact a4, by rw [y _ (by decide), x _ (by decide)]; exact a5, by rw [y _ (by decide), x _ (by decide)]; exact a6, by rw [y _ (by decide), x _ (by decide)]; exact a7, by rw [y _ (by decide), x _ (by decide)]; exact a8, by rw [h12, upd_s], by rw [y _ (by decide), x _ (by decide)]; exact a10, by rw [y _ (by decide), x _ (by decide)]; exact a11⟩, by simp only [y22]; rw [x _ (by decide), x _ (by decide), x _ (by decide)]; exact ⟨w1, w2, w3, w4, w5, w6, w7⟩, fun k1 hk1 s hs => ?_, fun k1 hk1 => ?_, fun i hi => ?_, fun p hp => ?_, fun i hi => ?_, fun l hl => ?_, fun l hl => ?_⟩
  · rw [z _ _ (by omega) (by omega), hg _ _ (by decide)]; exact h1 k1 hk1 s hs
  · rw [z _ _ (by omega) (by omega), hg _ _ (by decide)]; exact h2 k1 hk1
  · rw [z _ _ (by omega) (by omega), z _ _ (by omega) (by omega), z _ _ (by omega) (by omega), hg _ _ (by decide), hg _ _ (by decide), hg _ _ (by decide)]; exact h3 i hi
  · obtain ⟨b1, b2, b3, b4, b5, b6⟩ := h4 p hp
    simp only [y22]
    rw [z _ _ (by omega) (by omega), z _ _ (by omega) (by omega), z _ _ (by omega) (by omega), z _ _ (by omega) (by omega), z _ _ (by omega) (by omega)]
    exact ⟨b1, b2, b3, b4, b5, fun j hj k2 hk2 => by rw [z _ _ (by omega) (by omega)]; exact b6 j hj k2 hk2⟩
  · rw [upd_s] at hi; exact ht i hi
  · rw [z _ _ (by omega) (by omega), hg _ _ (by decide)]; exact h6 l hl
  · rw [z _ _ (by omega) (by omega), hg _ _ (by decide)]; exact h7 l hl
theorem Rel.worth {cn : Cn} {c : Tg} {f : Tf} {g : Tg} (h : Rel cn c f g) (p0 : Nat) (v : Int32) : Rel cn (up2 c (60 + 8 * p0) 3 v) f (up2 g 22 (23 * p0 + 3) v) := by
  obtain ⟨⟨a1, a2, a3, a4, a5, a6, a7, a8, a9, a10, a11⟩, ⟨w1, w2, w3, w4, w5, w6, w7⟩, h1, h2, h3, h4, h5, h6, h7⟩ := h
  have z : ∀ (b j : Nat), ¬ (b = 60 + 8 * p0 ∧ j = 3) → up2 c (60 + 8 * p0) 3 v b j = c b j := fun b j hb => up2_o _ _ _ _ hb
  have y : ∀ (b j : Nat), ¬ (b = 22 ∧ j = 23 * p0 + 3) → up2 g 22 (23 * p0 + 3) v b j = g b j := fun b j hb => up2_o _ _ _ _ hb
  have z0 : ∀ j, up2 c (60 + 8 * p0) 3 v 0 j = c 0 j := fun j => z 0 j (by omega)
  refine ⟨by simp only [z0]; exact ⟨a1, a2, a3, a4, a5, a6, a7, a8, a9, a10, a11⟩, ⟨w1, w2, w3, w4, w5, w6, fun p hp => by rw [y _ _ (by omega)]; exact w7 p hp⟩, fun k1 hk1 s hs => ?_, fun k1 hk1 => ?_, fun i hi => ?_, fun p hp => ?_, fun i hi => ?_, fun j hj => ?_, fun j hj => ?_⟩
  · rw [z _ _ (by omega), y _ _ (by omega)]; exact h1 k1 hk1 s hs
  · rw [z _ _ (by omega), y _ _ (by omega)]; exact h2 k1 hk1
  · rw [z _ _ (by omega), z _ _ (by omega), z _ _ (by omega), y _ _ (by omega), y _ _ (by omega), y _ _ (by omega)]; exact h3 i hi
  · obtain ⟨b1, b2, b3, b4, b5, b6⟩ := h4 p hp
    rw [z _ _ (by omega), z _ _ (by omega), z _ _ (by omega), z _ 5 (by omega), y _ _ (by omega), y _ _ (by omega), y _ _ (by omega), y _ (23 * p + 4) (by omega)]
    refine ⟨b1, b2, b3, ?_, b5, fun j hj k2 hk2 => ?_⟩
    · by_cases e : p = p0
      · rw [e, up2_s, up2_s]
      · rw [z _ _ (by omega), y _ _ (by omega)]; exact b4
    · have := (w7 p hp).2
      have hk6 : k2 < 6 := by split at hk2 <;> omega
      have hne : ¬ (22 = 22 ∧ 23 * p + 5 + 6 * j + k2 = 23 * p0 + 3) := by
        clear hk2
        rcases (show j = 0 ∨ j = 1 ∨ j = 2 by omega) with e | e | e <;> subst e <;> omega
      rw [z _ _ (by omega), y _ _ hne]; exact b6 j hj k2 hk2
  · rw [z _ _ (by omega), y _ _ (by omega)]; exact h5 i hi
  · rw [z _ _ (by omega), y _ _ (by omega)]; exact h6 j hj
  · rw [z _ _ (by omega), y _ _ (by omega)]; exact h7 j hj
theorem MI.cP {cn : Cn} {c : Tg} {f : Tf} {g : Tg} (h : MI f g) (hR : Rel cn c f g) {p : Int32} (hp : inB p 0 (f 21 - 1) = true) : ∃ a : Nat, p = nI a ∧ a < 5 ∧ a < cP cn ∧ vp_in p 5 ∧ p.toNatClampNeg = a := by
  obtain ⟨a, n, rfl, ha, hn, hn5, han, -⟩ := h.plan hp
  exact ⟨a, rfl, ha, by rw [hR.2.1.2.2.1, hn, nc n]; exact han, vp_in_nI ha (by decide), nc a⟩
abbrev MX0_erase : Mi := (yX0_erase, cX0_erase, 2, some .int, { frames := 0, cells := 0, slots := 0, locals := 0 })
theorem nmX0_erase : Nm yX0_erase 0 := ⟨by decide +kernel, by decide +kernel, by decide +kernel⟩
theorem vcX0_erase_0 {G : Gl} {ad : Nat → Nat} {cn : Cn} {h0 : Hp} {Q : Option Value → Tg → Prop} (g : Tg) (f : Tf) (gt : Tg)   (hv : Q (some (.int (g 0 12))) (up2 g 0 12 0)) :
    AWC G ad cn h0 MX0_erase Q g 0 [(0, .ref (ad 0))] [] := by
  refine AWC_aload_n (pc := 0) dX0_erase_0 rfl 0 rfl ?_
  refine AWC_getI (pc := 1) (0) 12 rfl clX0 (by decide) rfl (FL.o q279) dX0_erase_1 ?_
  refine AWC_istore_n (pc := 4) (lv' := [(1, .int (g 0 12)), (0, .ref (ad 0))]) dX0_erase_4 rfl (by decide) rfl ?_
  refine AWC_aload_n (pc := 5) dX0_erase_5 rfl 1 rfl ?_
  refine AWC_iconst (pc := 6) (v := 0) dX0_erase_6 (by decide) ?_
  refine AWC_putI (pc := 7) (0) 12 rfl clX0 (by decide) rfl (FL.o q279) rfl dX0_erase_7 ?_
  refine AWC_iload_n (pc := 10) dX0_erase_10 rfl 0 rfl ?_
  exact AWC_iret (pc := 11) rfl rfl dX0_erase_11 hv
theorem mcX0_erase {G : Gl} {ad : Nat → Nat} (cn : Cn) (g : Tg) (f : Tf) (gt : Tg)  (h1 : Rel cn g f gt) : MCC G ad cn MX0_erase [.ref (ad 0)] g (fun v0 g1 => ∃ r, v0 = some (.int r) ∧ r = f 12 ∧ Rel cn g1 (upd f 12 0) gt) := by
  refine MCC.of ⟨rfl, rfl⟩ (by decide) (Nat.le_of_ble_eq_true rfl) rfl (fun h0 => vcX0_erase_0 g f gt   ?_)
  refine ⟨_, rfl, h1.1.2.2.2.2.2.2.2.2.1, h1.text 0 (fun b j hb hj => up2_o _ _ _ _ hj) (up2_s _ _ _ _) (fun _ _ _ => rfl) (fun i hi => absurd hi ?_)⟩
  rw [show (0 : Int32).toNatClampNeg = 0 by decide]
  exact Nat.not_lt_zero i
abbrev MX0_worth : Mi := (yX0_worth, cX0_worth, 4, some .int, { frames := 2, cells := 0, slots := 0, locals := 46 })
theorem nmX0_worth : Nm yX0_worth 2 := ⟨by decide +kernel, by decide +kernel, by decide +kernel⟩
theorem vcX0_worth_0 {G : Gl} {ad : Nat → Nat} {cn : Cn} {h0 : Hp} {Q : Option Value → Tg → Prop} (g : Tg) (f : Tf) (gt : Tg) (p : Int32) (v : Int32)  (hv : (((inB p 0 (g 0 10 - 1)) = true → (((inB v 1 99) = true → (vp_in p 5) ∧ (p.toNatClampNeg < cP cn) ∧ (vp_in p 5) ∧ (p.toNatClampNeg < cP cn) ∧ Q (some (.int (g (60 + 8 * p.toNatClampNeg) 3))) (up2 g (60 + 8 * p.toNatClampNeg) 3 v)) ∧ ((inB v 1 99) = false → Q (some (.int (-3))) g))) ∧ ((inB p 0 (g 0 10 - 1)) = false → Q (some (.int (-2))) g))) :
    AWC G ad cn h0 MX0_worth Q g 0 [(0, .ref (ad 0)), (1, .int p), (2, .int v)] [] := by
  refine AWC_aload_n (pc := 0) dX0_worth_0 rfl 0 rfl ?_
  refine AWC_iload_n (pc := 1) dX0_worth_1 rfl 1 rfl ?_
  refine AWC_callV (M' := MX0_isPlan) (pc := 2) (a := 0) [.int p] [] clX0 rfl rfl nmX0_isPlan ⟨rfl, rfl⟩ (ML.o q745) q747 qs15 q73 q748 dX0_worth_2 rfl rfl (Nat.le_of_ble_eq_true rfl) ⟨Nat.le_of_ble_eq_true rfl, Nat.le_of_ble_eq_true rfl⟩ (mcX0_isPlan cn g  p ) ?_
  rintro _ _ ⟨rfl, rfl⟩
  refine AWC_ifb_ne (pc := 5) (tgt := 11) dX0_worth_5 (by decide) (fun c1 => ?_) (fun c1 => ?_)
  · have hv := hv.1 c1
    refine AWC_iload_n (pc := 11) dX0_worth_11 rfl 2 rfl ?_
    refine AWC_i2l (pc := 12) dX0_worth_12 ?_
    refine AWC_lconst (pc := 13) (v := 1) dX0_worth_13 (by decide) ?_
    refine AWC_ldc2 (pc := 14) q776 dX0_worth_14 ?_
    refine AWC_callS (M' := MX0_isIn) (pc := 17) [.long (Int32.toInt64 v), .long 1, .long 99] [] nmX0_isIn ⟨rfl, rfl⟩ (ML.o q354) q355 q73 q356 dX0_worth_17 rfl rfl (Nat.le_of_ble_eq_true rfl) ⟨Nat.le_of_ble_eq_true rfl, Nat.le_of_ble_eq_true rfl⟩ (mcX0_isInI cn g v 1 99 (Int32.toInt64 v) 1 99 rfl rfl rfl) ?_
    rintro _ _ ⟨rfl, rfl⟩
    refine AWC_ifb_ne (pc := 20) (tgt := 26) dX0_worth_20 (by decide) (fun c2 => ?_) (fun c2 => ?_)
    · have hv := hv.1 c2
      refine AWC_aload_n (pc := 26) dX0_worth_26 rfl 0 rfl ?_
      refine AWC_getR (pc := 27) (0) 9 (9) rfl rfl clX0 (by decide) rfl (FL.o q270) dX0_worth_27 ?_
      refine AWC_iload_n (pc := 30) dX0_worth_30 rfl 1 rfl ?_
      have h_3 := hv.1
      have hv := hv.2
      have h_4 := hv.1
      have hv := hv.2
      refine AWC_aald (pc := 31) (b := 9) (b' := 60 + 8 * p.toNatClampNeg) (t := 5) (n := 5) rfl (rB_plan h_4) (by decide) (by decide) dX0_worth_31 h_3 ?_
      refine AWC_getI (pc := 32) (60 + 8 * p.toNatClampNeg) 3 (kB_plan h_4) clX11 (by decide) rfl (FL.n q481) dX0_worth_32 ?_
      refine AWC_istore_n (pc := 35) (lv' := [(3, .int (g (60 + 8 * p.toNatClampNeg) 3)), (0, .ref (ad 0)), (1, .int p), (2, .int v)]) dX0_worth_35 rfl (by decide) rfl ?_
      refine AWC_aload_n (pc := 36) dX0_worth_36 rfl 1 rfl ?_
      refine AWC_getR (pc := 37) (0) 9 (9) rfl rfl clX0 (by decide) rfl (FL.o q270) dX0_worth_37 ?_
      refine AWC_iload_n (pc := 40) dX0_worth_40 rfl 2 rfl ?_
      have h_5 := hv.1
      have hv := hv.2
      have h_6 := hv.1
      have hv := hv.2
      refine AWC_aald (pc := 41) (b := 9) (b' := 60 + 8 * p.toNatClampNeg) (t := 5) (n := 5) rfl (rB_plan h_6) (by decide) (by decide) dX0_worth_41 h_5 ?_
      refine AWC_iload_n (pc := 42) dX0_worth_42 rfl 3 rfl ?_
      refine AWC_putI (pc := 43) (60 + 8 * p.toNatClampNeg) 3 (kB_plan h_6) clX11 (by decide) rfl (FL.n q481) rfl dX0_worth_43 ?_
      refine AWC_iload_n (pc := 46) dX0_worth_46 rfl 0 rfl ?_
      exact AWC_iret (pc := 47) rfl rfl dX0_worth_47 hv
    · have hv := hv.2 c2
      refine AWC_bipush (pc := 23) (v := (-3)) dX0_worth_23 (by decide) ?_
      exact AWC_iret (pc := 25) rfl rfl dX0_worth_25 hv
  · have hv := hv.2 c1
    refine AWC_bipush (pc := 8) (v := (-2)) dX0_worth_8 (by decide) ?_
    exact AWC_iret (pc := 10) rfl rfl dX0_worth_10 hv
theorem mcX0_worth {G : Gl} {ad : Nat → Nat} (cn : Cn) (g : Tg) (f : Tf) (gt : Tg) (p : Int32) (v : Int32) (h1 : Rel cn g f gt) (h2 : MI f gt) : MCC G ad cn MX0_worth [.ref (ad 0), .int p, .int v] g (fun v0 g1 => ∃ r, v0 = some (.int r) ∧ r = rWorth f gt p v ∧ Rel cn g1 f (gWorth f gt p v)) := by
  refine MCC.of ⟨rfl, rfl⟩ (by decide) (Nat.le_of_ble_eq_true rfl) rfl (fun h0 => vcX0_worth_0 g f gt p v  ?_)
  have a8 := h1.1.2.2.2.2.2.2.2.1
  rw [a8]
  refine ⟨fun c => ⟨fun c2 => ?_, fun c2 => ⟨_, rfl, by simp [rWorth, c, c2], by simpa [gWorth, c, c2] using h1⟩⟩, fun c => ⟨_, rfl, by simp [rWorth, c], by simpa [gWorth, c] using h1⟩⟩
  obtain ⟨a, rfl, ha5, haP, hin, hcl⟩ := h2.cP h1 c
  have e1 : (23 * nI a + 3 : Int32).toNatClampNeg = 23 * a + 3 := by rw [lm 23 a, ra _ 3, nc (23 * a + 3)]
  rw [hcl]
  refine ⟨hin, haP, hin, haP, _, rfl, ?_, ?_⟩
  · simp only [rWorth, c, c2, if_true, e1]
    exact (h1.2.2.2.2.2.1 a haP).2.2.2.1
  · simp only [gWorth, c, c2, Bool.and_self, if_true, e1]
    exact h1.worth a v
abbrev MX0_next : Mi := (yX0_next, cX0_next, 3, some .int, { frames := 1, cells := 0, slots := 0, locals := 24 })
theorem nmX0_next : Nm yX0_next 0 := ⟨by decide +kernel, by decide +kernel, by decide +kernel⟩
theorem vcX0_next_0 {G : Gl} {ad : Nat → Nat} {cn : Cn} {h0 : Hp} {Q : Option Value → Tg → Prop} (g : Tg) (f : Tf) (gt : Tg)   (hv : AWC G ad cn h0 MX0_next Q g 4 [(0, .ref (ad 0)), (1, .int 0), (2, .int 1)] []) :
    AWC G ad cn h0 MX0_next Q g 0 [(0, .ref (ad 0))] [] := by
  refine AWC_iconst (pc := 0) (v := 0) dX0_next_0 (by decide) ?_
  refine AWC_istore_n (pc := 1) (lv' := [(1, .int 0), (0, .ref (ad 0))]) dX0_next_1 rfl (by decide) rfl ?_
  refine AWC_iconst (pc := 2) (v := 1) dX0_next_2 (by decide) ?_
  refine AWC_istore_n (pc := 3) (lv' := [(2, .int 1), (1, .int 0), (0, .ref (ad 0))]) dX0_next_3 rfl (by decide) rfl ?_
  refine AWC_lv (lv' := [(0, .ref (ad 0)), (1, .int 0), (2, .int 1)]) [2, 1, 0] rfl ?_
  exact hv
theorem vcX0_next_4 {G : Gl} {ad : Nat → Nat} {cn : Cn} {h0 : Hp} {Q : Option Value → Tg → Prop} (g : Tg) (f : Tf) (gt : Tg) (b : Int32) (l : Int32)  (hv : ((4 ≤ l → Q (some (.int b)) g) ∧ (¬ 4 ≤ l → (Rel cn g f gt) ∧ (vp_in l 4) ∧ (Rel cn g f gt) ∧ (vp_in b 4) ∧ (((debtS gt l) ≤ (debtS gt b) → AWC G ad cn h0 MX0_next Q g 4 [(0, .ref (ad 0)), (1, .int b), (2, .int (l + 1))] []) ∧ (¬ (debtS gt l) ≤ (debtS gt b) → AWC G ad cn h0 MX0_next Q g 4 [(0, .ref (ad 0)), (1, .int l), (2, .int (l + 1))] []))))) :
    AWC G ad cn h0 MX0_next Q g 4 [(0, .ref (ad 0)), (1, .int b), (2, .int l)] [] := by
  refine AWC_iload_n (pc := 4) dX0_next_4 rfl 2 rfl ?_
  refine AWC_iconst (pc := 5) (v := 4) dX0_next_5 (by decide) ?_
  refine AWC_icmp_ge (pc := 6) (tgt := 34) dX0_next_6 (by decide) (fun c1 => ?_) (fun c1 => ?_)
  · have hv := hv.1 c1
    refine AWC_iload_n (pc := 34) dX0_next_34 rfl 1 rfl ?_
    exact AWC_iret (pc := 35) rfl rfl dX0_next_35 hv
  · have hv := hv.2 c1
    refine AWC_aload_n (pc := 9) dX0_next_9 rfl 0 rfl ?_
    refine AWC_iload_n (pc := 10) dX0_next_10 rfl 2 rfl ?_
    have h_2 := hv.1
    have hv := hv.2
    have h_3 := hv.1
    have hv := hv.2
    refine AWC_callV (M' := MX0_debtOf) (pc := 11) (a := 0) [.int l] [] clX0 rfl rfl nmX0_debtOf ⟨rfl, rfl⟩ (ML.o q1024) q1026 qs37 q73 q1027 dX0_next_11 rfl rfl (Nat.le_of_ble_eq_true rfl) ⟨Nat.le_of_ble_eq_true rfl, Nat.le_of_ble_eq_true rfl⟩ (mcX0_debtOf cn g f gt l h_2 h_3) ?_
    rintro _ _ ⟨rfl, rfl⟩
    refine AWC_aload_n (pc := 14) dX0_next_14 rfl 0 rfl ?_
    refine AWC_iload_n (pc := 15) dX0_next_15 rfl 1 rfl ?_
    have h_4 := hv.1
    have hv := hv.2
    have h_5 := hv.1
    have hv := hv.2
    refine AWC_callV (M' := MX0_debtOf) (pc := 16) (a := 0) [.int b] [.int (debtS gt l)] clX0 rfl rfl nmX0_debtOf ⟨rfl, rfl⟩ (ML.o q1024) q1026 qs37 q73 q1027 dX0_next_16 rfl rfl (Nat.le_of_ble_eq_true rfl) ⟨Nat.le_of_ble_eq_true rfl, Nat.le_of_ble_eq_true rfl⟩ (mcX0_debtOf cn g f gt b h_4 h_5) ?_
    rintro _ _ ⟨rfl, rfl⟩
    refine AWC_icmp_le (pc := 19) (tgt := 26) dX0_next_19 (by decide) (fun c6 => ?_) (fun c6 => ?_)
    · have hv := hv.1 c6
      refine AWC_iload_n (pc := 26) dX0_next_26 rfl 1 rfl ?_
      refine AWC_istore_n (pc := 27) (lv' := [(1, .int b), (0, .ref (ad 0)), (2, .int l)]) dX0_next_27 rfl (by decide) rfl ?_
      refine AWC_iinc (pc := 28) (v := l + 1) (lv' := [(2, .int (l + 1)), (1, .int b), (0, .ref (ad 0))]) dX0_next_28 2 rfl rfl (by decide) rfl ?_
      refine AWC_goto (pc := 31) (tgt := 4) dX0_next_31 (by decide) ?_
      refine AWC_lv (lv' := [(0, .ref (ad 0)), (1, .int b), (2, .int (l + 1))]) [2, 1, 0] rfl ?_
      exact hv
    · have hv := hv.2 c6
      refine AWC_iload_n (pc := 22) dX0_next_22 rfl 2 rfl ?_
      refine AWC_goto (pc := 23) (tgt := 27) dX0_next_23 (by decide) ?_
      refine AWC_istore_n (pc := 27) (lv' := [(1, .int l), (0, .ref (ad 0)), (2, .int l)]) dX0_next_27 rfl (by decide) rfl ?_
      refine AWC_iinc (pc := 28) (v := l + 1) (lv' := [(2, .int (l + 1)), (1, .int l), (0, .ref (ad 0))]) dX0_next_28 2 rfl rfl (by decide) rfl ?_
      refine AWC_goto (pc := 31) (tgt := 4) dX0_next_31 (by decide) ?_
      refine AWC_lv (lv' := [(0, .ref (ad 0)), (1, .int l), (2, .int (l + 1))]) [2, 1, 0] rfl ?_
      exact hv
theorem mcX0_next {G : Gl} {ad : Nat → Nat} (cn : Cn) (g : Tg) (f : Tf) (gt : Tg)  (h1 : Rel cn g f gt) : MCC G ad cn MX0_next [.ref (ad 0)] g (fun v0 g1 => v0 = some (.int (rNext gt)) ∧ g = g1) := by
  refine MCC.of ⟨rfl, rfl⟩ (by decide) (Nat.le_of_ble_eq_true rfl) rfl (fun h0 => vcX0_next_0 g f gt   ?_)
  have step : ∀ (b l : Int32), vp_in b 4 → vp_in l 4 → ¬ 4 ≤ l → AWC G ad cn h0 MX0_next (fun v0 g1 => v0 = some (.int (rNext gt)) ∧ g = g1) g 4 [(0, .ref (ad 0)), (1, .int (nxtS gt b l)), (2, .int (l + 1))] [] → AWC G ad cn h0 MX0_next (fun v0 g1 => v0 = some (.int (rNext gt)) ∧ g = g1) g 4 [(0, .ref (ad 0)), (1, .int b), (2, .int l)] [] := by
    intro b l hb hl h4 ih
    refine vcX0_next_4 g f gt _ _ (br_f h4 ⟨h1, hl, h1, hb, fun c => ?_, fun c => ?_⟩)
    · rw [nxtS, if_pos c] at ih
      exact ih
    · rw [nxtS, if_neg c] at ih
      exact ih
  have i0 : vp_in 0 4 := pk_in 0 4 (by decide)
  have i1 : vp_in 1 4 := pk_in 1 4 (by decide)
  have i2 : vp_in 2 4 := pk_in 2 4 (by decide)
  have i3 : vp_in 3 4 := pk_in 3 4 (by decide)
  refine step 0 1 i0 i1 (by decide) (step _ 2 (nxtS_in i0 i1) i2 (by decide) (step _ 3 (nxtS_in (nxtS_in i0 i1) i2) i3 (by decide) ?_))
  exact vcX0_next_4 g f gt _ _ (br_t (by decide) ⟨rfl, rfl⟩)
def rPlacements (f : Tf) (g : Tg) (p : Int32) : Int32 := if inB p 0 (f 21 - 1) then nI (PL f g p.toNatClampNeg).length else -2
def rPlacement (f : Tf) (g : Tg) (p k : Int32) : Int32 := if inB p 0 (f 21 - 1) then (if inB k 0 (nI (PL f g p.toNatClampNeg).length - 1) then nI ((PL f g p.toNatClampNeg).getD k.toNatClampNeg 0) else -3) else -2
theorem PL_len {f : Tf} {g : Tg} {p : Nat} (h : PP f g p) : (PL f g p).length ≤ 192 := by
  obtain ⟨n, s, hn, hn4, hn12, hnN, hsv, hsK, hs1, hs3, hst, hk, hl⟩ := h.nums
  have hc1 : stK g p = 1 ∨ ((stN g p 2 5 + 1 - stN g p 2 4 ≤ 4 ∨ stK g p = 2) ∧ stN g p 1 5 + 1 - stN g p 1 4 ≤ 4) := by
    rcases (show s = 1 ∨ s = 2 ∨ s = 3 by omega) with z | z | z
    · left; omega
    · right
      obtain ⟨l2, m2, -, z4, -, -, z5, z6, z7⟩ := hl 1 (by omega) (by omega)
      exact ⟨Or.inr (by omega), by omega⟩
    · right
      obtain ⟨l2, m2, -, z4, -, -, z5, z6, z7⟩ := hl 1 (by omega) (by omega)
      obtain ⟨l3, m3, -, y4, -, -, y5, y6, y7⟩ := hl 2 (by omega) (by omega)
      exact ⟨Or.inl (by omega), by omega⟩
  have := fl_len (F := c1 f g p) (c := 16) (nN f) (fun i _ => c1_len f g p i hc1)
  unfold PL
  omega
/-- the component's state with plan p's placements laid -/
def layC (c : Tg) (p : Nat) (L : List Nat) : Tg := addL (up2 c (60 + 8 * p) 7 0) p L
theorem layC_sam (c : Tg) (p : Nat) (L : List Nat) : Sam c (layC c p L) := ((Sam.rf c).up (by unfold scr; omega) 0).tr (addL_sam _ _ _)
theorem layC_7 (c : Tg) (p : Nat) (L : List Nat) : layC c p L (60 + 8 * p) 7 = nI L.length := by
  unfold layC
  rw [addL_7, up2_s, sb_cl0, Nat.zero_add]
theorem layC_at (c : Tg) (p : Nat) (L : List Nat) {k : Nat} (hk : k < L.length) : layC c p L (62 + 8 * p) k = nI (L.getD k 0) := by
  unfold layC
  rw [addL_o _ _ _ (by omega), up2_s, sb_cl0, if_pos ⟨rfl, by omega, by omega⟩, Nat.sub_zero]
abbrev MX0_placements : Mi := (yX0_placements, cX0_placements, 2, some .int, { frames := 7, cells := 0, slots := 0, locals := 159 })
theorem nmX0_placements : Nm yX0_placements 1 := ⟨by decide +kernel, by decide +kernel, by decide +kernel⟩
theorem vcX0_placements_0 {G : Gl} {ad : Nat → Nat} {cn : Cn} {h0 : Hp} {Q : Option Value → Tg → Prop} (g : Tg) (f : Tf) (gt : Tg) (p : Int32)  (hv : (((inB p 0 (g 0 10 - 1)) = true → (vp_in p 5) ∧ (p.toNatClampNeg < cP cn) ∧ (LPl cn g f gt p.toNatClampNeg) ∧ (vp_in p 5) ∧ (p.toNatClampNeg < cP cn) ∧ Q (some (.int ((addL (up2 g (60 + 8 * p.toNatClampNeg) 7 0) p.toNatClampNeg (PL f gt p.toNatClampNeg)) (60 + 8 * p.toNatClampNeg) 7))) (addL (up2 g (60 + 8 * p.toNatClampNeg) 7 0) p.toNatClampNeg (PL f gt p.toNatClampNeg))) ∧ ((inB p 0 (g 0 10 - 1)) = false → Q (some (.int (-2))) g))) :
    AWC G ad cn h0 MX0_placements Q g 0 [(0, .ref (ad 0)), (1, .int p)] [] := by
  refine AWC_aload_n (pc := 0) dX0_placements_0 rfl 0 rfl ?_
  refine AWC_iload_n (pc := 1) dX0_placements_1 rfl 1 rfl ?_
  refine AWC_callV (M' := MX0_isPlan) (pc := 2) (a := 0) [.int p] [] clX0 rfl rfl nmX0_isPlan ⟨rfl, rfl⟩ (ML.o q745) q747 qs15 q73 q748 dX0_placements_2 rfl rfl (Nat.le_of_ble_eq_true rfl) ⟨Nat.le_of_ble_eq_true rfl, Nat.le_of_ble_eq_true rfl⟩ (mcX0_isPlan cn g  p ) ?_
  rintro _ _ ⟨rfl, rfl⟩
  refine AWC_ifb_ne (pc := 5) (tgt := 11) dX0_placements_5 (by decide) (fun c1 => ?_) (fun c1 => ?_)
  · have hv := hv.1 c1
    refine AWC_aload_n (pc := 11) dX0_placements_11 rfl 0 rfl ?_
    refine AWC_getR (pc := 12) (0) 9 (9) rfl rfl clX0 (by decide) rfl (FL.o q270) dX0_placements_12 ?_
    refine AWC_iload_n (pc := 15) dX0_placements_15 rfl 1 rfl ?_
    have h_2 := hv.1
    have hv := hv.2
    have h_3 := hv.1
    have hv := hv.2
    refine AWC_aald (pc := 16) (b := 9) (b' := 60 + 8 * p.toNatClampNeg) (t := 5) (n := 5) rfl (rB_plan h_3) (by decide) (by decide) dX0_placements_16 h_2 ?_
    have h_4 := hv.1
    have hv := hv.2
    refine AWC_callV (M' := MX11_layPlaces) (pc := 17) (a := 60 + 8 * p.toNatClampNeg) [] [] clX11 (kB_plan h_3) rfl nmX11_layPlaces ⟨rfl, rfl⟩ (ML.o q781) q782 q783 q86 q784 dX0_placements_17 rfl rfl (Nat.le_of_ble_eq_true rfl) ⟨Nat.le_of_ble_eq_true rfl, Nat.le_of_ble_eq_true rfl⟩ (mcX11_layPlaces cn g f gt p.toNatClampNeg h_3 h_4) ?_
    rintro _ _ ⟨rfl, rfl⟩
    refine AWC_aload_n (pc := 20) dX0_placements_20 rfl 0 rfl ?_
    refine AWC_getR (pc := 21) (0) 9 (9) rfl rfl clX0 (by decide) rfl (FL.o q270) dX0_placements_21 ?_
    refine AWC_iload_n (pc := 24) dX0_placements_24 rfl 1 rfl ?_
    have h_5 := hv.1
    have hv := hv.2
    have h_6 := hv.1
    have hv := hv.2
    refine AWC_aald (pc := 25) (b := 9) (b' := 60 + 8 * p.toNatClampNeg) (t := 5) (n := 5) rfl (rB_plan h_6) (by decide) (by decide) dX0_placements_25 h_5 ?_
    refine AWC_getI (pc := 26) (60 + 8 * p.toNatClampNeg) 7 (kB_plan h_6) clX11 (by decide) rfl (FL.n q493) dX0_placements_26 ?_
    exact AWC_iret (pc := 29) rfl rfl dX0_placements_29 hv
  · have hv := hv.2 c1
    refine AWC_bipush (pc := 8) (v := (-2)) dX0_placements_8 (by decide) ?_
    exact AWC_iret (pc := 10) rfl rfl dX0_placements_10 hv
theorem mcX0_placements {G : Gl} {ad : Nat → Nat} (cn : Cn) (g : Tg) (f : Tf) (gt : Tg) (p : Int32) (h1 : Rel cn g f gt) (h2 : MI f gt) : MCC G ad cn MX0_placements [.ref (ad 0), .int p] g (fun v0 g1 => ∃ r, v0 = some (.int r) ∧ r = rPlacements f gt p ∧ Rel cn g1 f gt) := by
  refine MCC.of ⟨rfl, rfl⟩ (by decide) (Nat.le_of_ble_eq_true rfl) rfl (fun h0 => vcX0_placements_0 g f gt p  ?_)
  have a8 := h1.1.2.2.2.2.2.2.2.1
  rw [a8]
  refine ⟨fun c => ?_, fun c => ⟨_, rfl, by simp [rPlacements, c], h1⟩⟩
  obtain ⟨a, rfl, ha5, haP, hin, hcl⟩ := h2.cP h1 c
  rw [hcl]
  refine ⟨hin, haP, LPl.of h1 h2 haP, hin, haP, _, rfl, ?_, h1.sam (layC_sam g a _)⟩
  simp only [rPlacements, c, if_true, hcl]
  exact layC_7 g a _
abbrev MX0_placement : Mi := (yX0_placement, cX0_placement, 3, some .int, { frames := 7, cells := 0, slots := 0, locals := 159 })
theorem nmX0_placement : Nm yX0_placement 2 := ⟨by decide +kernel, by decide +kernel, by decide +kernel⟩
theorem vcX0_placement_0 {G : Gl} {ad : Nat → Nat} {cn : Cn} {h0 : Hp} {Q : Option Value → Tg → Prop} (g : Tg) (f : Tf) (gt : Tg) (p : Int32) (k : Int32)  (hv : (((inB p 0 (g 0 10 - 1)) = true → (vp_in p 5) ∧ (p.toNatClampNeg < cP cn) ∧ (LPl cn g f gt p.toNatClampNeg) ∧ (vp_in p 5) ∧ (p.toNatClampNeg < cP cn) ∧ (((inB k 0 (((addL (up2 g (60 + 8 * p.toNatClampNeg) 7 0) p.toNatClampNeg (PL f gt p.toNatClampNeg)) (60 + 8 * p.toNatClampNeg) 7) - 1)) = false → Q (some (.int (-3))) (addL (up2 g (60 + 8 * p.toNatClampNeg) 7 0) p.toNatClampNeg (PL f gt p.toNatClampNeg))) ∧ ((inB k 0 (((addL (up2 g (60 + 8 * p.toNatClampNeg) 7 0) p.toNatClampNeg (PL f gt p.toNatClampNeg)) (60 + 8 * p.toNatClampNeg) 7) - 1)) = true → (vp_in p 5) ∧ (p.toNatClampNeg < cP cn) ∧ (vp_in k 200) ∧ Q (some (.int ((addL (up2 g (60 + 8 * p.toNatClampNeg) 7 0) p.toNatClampNeg (PL f gt p.toNatClampNeg)) (62 + 8 * p.toNatClampNeg) k.toNatClampNeg))) (addL (up2 g (60 + 8 * p.toNatClampNeg) 7 0) p.toNatClampNeg (PL f gt p.toNatClampNeg))))) ∧ ((inB p 0 (g 0 10 - 1)) = false → Q (some (.int (-2))) g))) :
    AWC G ad cn h0 MX0_placement Q g 0 [(0, .ref (ad 0)), (1, .int p), (2, .int k)] [] := by
  refine AWC_aload_n (pc := 0) dX0_placement_0 rfl 0 rfl ?_
  refine AWC_iload_n (pc := 1) dX0_placement_1 rfl 1 rfl ?_
  refine AWC_callV (M' := MX0_isPlan) (pc := 2) (a := 0) [.int p] [] clX0 rfl rfl nmX0_isPlan ⟨rfl, rfl⟩ (ML.o q745) q747 qs15 q73 q748 dX0_placement_2 rfl rfl (Nat.le_of_ble_eq_true rfl) ⟨Nat.le_of_ble_eq_true rfl, Nat.le_of_ble_eq_true rfl⟩ (mcX0_isPlan cn g  p ) ?_
  rintro _ _ ⟨rfl, rfl⟩
  refine AWC_ifb_ne (pc := 5) (tgt := 11) dX0_placement_5 (by decide) (fun c1 => ?_) (fun c1 => ?_)
  · have hv := hv.1 c1
    refine AWC_aload_n (pc := 11) dX0_placement_11 rfl 0 rfl ?_
    refine AWC_getR (pc := 12) (0) 9 (9) rfl rfl clX0 (by decide) rfl (FL.o q270) dX0_placement_12 ?_
    refine AWC_iload_n (pc := 15) dX0_placement_15 rfl 1 rfl ?_
    have h_2 := hv.1
    have hv := hv.2
    have h_3 := hv.1
    have hv := hv.2
    refine AWC_aald (pc := 16) (b := 9) (b' := 60 + 8 * p.toNatClampNeg) (t := 5) (n := 5) rfl (rB_plan h_3) (by decide) (by decide) dX0_placement_16 h_2 ?_
    have h_4 := hv.1
    have hv := hv.2
    refine AWC_callV (M' := MX11_layPlaces) (pc := 17) (a := 60 + 8 * p.toNatClampNeg) [] [] clX11 (kB_plan h_3) rfl nmX11_layPlaces ⟨rfl, rfl⟩ (ML.o q781) q782 q783 q86 q784 dX0_placement_17 rfl rfl (Nat.le_of_ble_eq_true rfl) ⟨Nat.le_of_ble_eq_true rfl, Nat.le_of_ble_eq_true rfl⟩ (mcX11_layPlaces cn g f gt p.toNatClampNeg h_3 h_4) ?_
    rintro _ _ ⟨rfl, rfl⟩
    refine AWC_iload_n (pc := 20) dX0_placement_20 rfl 2 rfl ?_
    refine AWC_i2l (pc := 21) dX0_placement_21 ?_
    refine AWC_lconst (pc := 22) (v := 0) dX0_placement_22 (by decide) ?_
    refine AWC_aload_n (pc := 23) dX0_placement_23 rfl 0 rfl ?_
    refine AWC_getR (pc := 24) (0) 9 (9) rfl rfl clX0 (by decide) rfl (FL.o q270) dX0_placement_24 ?_
    refine AWC_iload_n (pc := 27) dX0_placement_27 rfl 1 rfl ?_
    have h_5 := hv.1
    have hv := hv.2
    have h_6 := hv.1
    have hv := hv.2
    refine AWC_aald (pc := 28) (b := 9) (b' := 60 + 8 * p.toNatClampNeg) (t := 5) (n := 5) rfl (rB_plan h_6) (by decide) (by decide) dX0_placement_28 h_5 ?_
    refine AWC_getI (pc := 29) (60 + 8 * p.toNatClampNeg) 7 (kB_plan h_6) clX11 (by decide) rfl (FL.n q493) dX0_placement_29 ?_
    refine AWC_iconst (pc := 32) (v := 1) dX0_placement_32 (by decide) ?_
    refine AWC_isub (pc := 33) dX0_placement_33 ?_
    refine AWC_i2l (pc := 34) dX0_placement_34 ?_
    refine AWC_callS (M' := MX0_isIn) (pc := 35) [.long (Int32.toInt64 k), .long 0, .long (Int32.toInt64 (((addL (up2 g (60 + 8 * p.toNatClampNeg) 7 0) p.toNatClampNeg (PL f gt p.toNatClampNeg)) (60 + 8 * p.toNatClampNeg) 7) - 1))] [] nmX0_isIn ⟨rfl, rfl⟩ (ML.o q354) q355 q73 q356 dX0_placement_35 rfl rfl (Nat.le_of_ble_eq_true rfl) ⟨Nat.le_of_ble_eq_true rfl, Nat.le_of_ble_eq_true rfl⟩ (mcX0_isInI cn (addL (up2 g (60 + 8 * p.toNatClampNeg) 7 0) p.toNatClampNeg (PL f gt p.toNatClampNeg)) k 0 (((addL (up2 g (60 + 8 * p.toNatClampNeg) 7 0) p.toNatClampNeg (PL f gt p.toNatClampNeg)) (60 + 8 * p.toNatClampNeg) 7) - 1) (Int32.toInt64 k) 0 (Int32.toInt64 (((addL (up2 g (60 + 8 * p.toNatClampNeg) 7 0) p.toNatClampNeg (PL f gt p.toNatClampNeg)) (60 + 8 * p.toNatClampNeg) 7) - 1)) rfl rfl rfl) ?_
    rintro _ _ ⟨rfl, rfl⟩
    refine AWC_ifb_eq (pc := 38) (tgt := 55) dX0_placement_38 (by decide) (fun c7 => ?_) (fun c7 => ?_)
    · have hv := hv.1 c7
      refine AWC_bipush (pc := 55) (v := (-3)) dX0_placement_55 (by decide) ?_
      exact AWC_iret (pc := 57) rfl rfl dX0_placement_57 hv
    · have hv := hv.2 c7
      refine AWC_aload_n (pc := 41) dX0_placement_41 rfl 0 rfl ?_
      refine AWC_getR (pc := 42) (0) 9 (9) rfl rfl clX0 (by decide) rfl (FL.o q270) dX0_placement_42 ?_
      refine AWC_iload_n (pc := 45) dX0_placement_45 rfl 1 rfl ?_
      have h_8 := hv.1
      have hv := hv.2
      have h_9 := hv.1
      have hv := hv.2
      refine AWC_aald (pc := 46) (b := 9) (b' := 60 + 8 * p.toNatClampNeg) (t := 5) (n := 5) rfl (rB_plan h_9) (by decide) (by decide) dX0_placement_46 h_8 ?_
      refine AWC_getR (pc := 47) (60 + 8 * p.toNatClampNeg) 6 (62 + 8 * p.toNatClampNeg) (kB_plan h_9) (rB_pf 6) clX11 (by decide) rfl (FL.n q490) dX0_placement_47 ?_
      refine AWC_iload_n (pc := 50) dX0_placement_50 rfl 2 rfl ?_
      have h_10 := hv.1
      have hv := hv.2
      refine AWC_iald (pc := 51) (b := 62 + 8 * p.toNatClampNeg) (n := 200) (kB_places h_9) dX0_placement_51 h_10 ?_
      refine AWC_goto (pc := 52) (tgt := 57) dX0_placement_52 (by decide) ?_
      exact AWC_iret (pc := 57) rfl rfl dX0_placement_57 hv
  · have hv := hv.2 c1
    refine AWC_bipush (pc := 8) (v := (-2)) dX0_placement_8 (by decide) ?_
    exact AWC_iret (pc := 10) rfl rfl dX0_placement_10 hv
theorem mcX0_placement {G : Gl} {ad : Nat → Nat} (cn : Cn) (g : Tg) (f : Tf) (gt : Tg) (p : Int32) (k : Int32) (h1 : Rel cn g f gt) (h2 : MI f gt) : MCC G ad cn MX0_placement [.ref (ad 0), .int p, .int k] g (fun v0 g1 => ∃ r, v0 = some (.int r) ∧ r = rPlacement f gt p k ∧ Rel cn g1 f gt) := by
  refine MCC.of ⟨rfl, rfl⟩ (by decide) (Nat.le_of_ble_eq_true rfl) rfl (fun h0 => vcX0_placement_0 g f gt p k  ?_)
  have a8 := h1.1.2.2.2.2.2.2.2.1
  rw [a8]
  refine ⟨fun c => ?_, fun c => ⟨_, rfl, by simp [rPlacement, c], h1⟩⟩
  obtain ⟨a, rfl, ha5, haP, hin, hcl⟩ := h2.cP h1 c
  rw [hcl]
  have hL := LPl.of h1 h2 haP
  have hlen := PL_len hL.2.1
  have e7 : addL (up2 g (60 + 8 * a) 7 0) a (PL f gt a) (60 + 8 * a) 7 = nI (PL f gt a).length := layC_7 g a _
  rw [e7]
  refine ⟨hin, haP, hL, hin, haP, fun c2 => ⟨_, rfl, by simp only [rPlacement, c, if_true, hcl, c2]; rfl, h1.sam (layC_sam g a _)⟩, fun c2 => ?_⟩
  obtain ⟨k', hk', rfl⟩ := inB_lo c2 (by omega)
  refine ⟨hin, haP, vp_in_nI (by omega) (by decide), _, rfl, ?_, h1.sam (layC_sam g a _)⟩
  simp only [rPlacement, c, if_true, hcl, c2]
  rw [nc k']
  exact layC_at g a _ hk' 
