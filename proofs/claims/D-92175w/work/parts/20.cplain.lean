/-! ===== the component: more plain public methods (printed by h20.py) ===== -/
theorem fill_o (g : Tg) (k n : Nat) (v : Int32) {b j : Nat} (h : b ≠ k) : fill g k n v b j = g b j := by simp [fill, h]
theorem fill_i (g : Tg) (k n : Nat) (v : Int32) {j : Nat} : fill g k n v k j = if j < n then v else g k j := by simp [fill]
theorem Rel.cW0 {cn : Cn} {c : Tg} {f : Tf} {g : Tg} (h : Rel cn c f g) : Rel (0, cn.2) (up2 c 0 6 0) (upd f 10 0) g := by
  obtain ⟨⟨a1, a2, a3, a4, a5, a6, a7, a8, a9, a10, a11⟩, ⟨w1, w2, w3, w4, w5, w6, w7⟩, h1, h2, h3, h4, h5, h6, h7⟩ := h
  have z : ∀ (b j : Nat), b ≠ 0 → up2 c 0 6 0 b j = c b j := fun b j hb => up2_n _ _ _ _ hb
  have y : ∀ j, j ≠ 6 → up2 c 0 6 0 0 j = c 0 j := fun j hj => up2_o _ _ _ _ (fun w => hj w.2)
  have x : ∀ j, j ≠ 10 → upd f 10 0 j = f j := fun j hj => upd_o f 0 hj
  refine ⟨⟨by rw [y _ (by decide), x _ (by decide)]; exact a1, by rw [y _ (by decide), x _ (by decide)]; exact a2, by rw [y _ (by decide), x _ (by decide)]; exact a3, by rw [y _ (by decide), x _ (by decide)]; exact a4, by rw [y _ (by decide), x _ (by decide)]; exact a5, by rw [up2_s, upd_s], by rw [y _ (by decide), x _ (by decide)]; exact a7, by rw [y _ (by decide), x _ (by decide)]; exact a8, by rw [y _ (by decide), x _ (by decide)]; exact a9, by rw [y _ (by decide), x _ (by decide)]; exact a10, by rw [y _ (by decide), x _ (by decide)]; exact a11⟩, ⟨by rw [upd_s]; rfl, by rw [x _ (by decide)]; exact w2, by rw [x _ (by decide)]; exact w3, Nat.zero_le 4, w5, w6, w7⟩, fun k1 hk1 s hs => ?_, fun k1 hk1 => absurd hk1 (Nat.not_lt_zero _), fun i hi => ?_, fun p hp => ?_, fun i hi => ?_, fun l hl => ?_, fun l hl => ?_⟩
  · rw [z _ _ (by omega)]; exact h1 k1 (by have : k1 < 2 + 0 := hk1; omega) s hs
  · rw [z _ _ (by omega), z _ _ (by omega), z _ _ (by omega)]; exact h3 i hi
  · obtain ⟨b1, b2, b3, b4, b5, b6⟩ := h4 p hp
    rw [z _ _ (by omega), z _ _ (by omega), z _ _ (by omega), z _ _ (by omega), z _ _ (by omega)]
    exact ⟨b1, b2, b3, b4, b5, fun j hj k2 hk2 => by rw [z _ _ (by omega)]; exact b6 j hj k2 hk2⟩
  · rw [x _ (by decide)] at hi; rw [z _ _ (by omega)]; exact h5 i hi
  · rw [z _ _ (by omega)]; exact h6 l hl
  · rw [z _ _ (by omega)]; exact h7 l hl
/-- skies' places change alike on both sides -/
theorem Rel.skies {cn : Cn} {c c' : Tg} {f : Tf} {g g' : Tg} (h : Rel cn c f g) (hc : ∀ b j, ¬ (40 ≤ b ∧ b < 50) → c' b j = c b j) (hg : ∀ b j, b ≠ 9 → g' b j = g b j) (hs : ∀ k, k < 2 + cW cn → ∀ s, s < 12 → c' (40 + k) s = g' 9 (12 * k + s)) : Rel cn c' f g' := by
  obtain ⟨⟨a1, a2, a3, a4, a5, a6, a7, a8, a9, a10, a11⟩, ⟨w1, w2, w3, w4, w5, w6, w7⟩, h1, h2, h3, h4, h5, h6, h7⟩ := h
  have z0 : ∀ j, c' 0 j = c 0 j := fun j => hc 0 j (by omega)
  have y22 : ∀ j, g' 22 j = g 22 j := fun j => hg 22 j (by decide)
  refine ⟨by simp only [z0]; exact ⟨a1, a2, a3, a4, a5, a6, a7, a8, a9, a10, a11⟩, by simp only [y22]; exact ⟨w1, w2, w3, w4, w5, w6, w7⟩, hs, fun k hk => ?_, fun i hi => ?_, fun p hp => ?_, fun i hi => ?_, fun l hl => ?_, fun l hl => ?_⟩
  · rw [hc _ _ (by omega), hg _ _ (by decide)]; exact h2 k hk
  · rw [hc _ _ (by omega), hc _ _ (by omega), hc _ _ (by omega), hg _ _ (by decide), hg _ _ (by decide), hg _ _ (by decide)]; exact h3 i hi
  · obtain ⟨b1, b2, b3, b4, b5, b6⟩ := h4 p hp
    simp only [y22]
    rw [hc _ _ (by omega), hc _ _ (by omega), hc _ _ (by omega), hc _ _ (by omega), hc _ _ (by omega)]
    exact ⟨b1, b2, b3, b4, b5, fun j hj k2 hk2 => by rw [hc _ _ (by omega)]; exact b6 j hj k2 hk2⟩
  · rw [hc _ _ (by omega), hg _ _ (by decide)]; exact h5 i hi
  · rw [hc _ _ (by omega), hg _ _ (by decide)]; exact h6 l hl
  · rw [hc _ _ (by omega), hg _ _ (by decide)]; exact h7 l hl
theorem Rel.clear {cn : Cn} {c : Tg} {f : Tf} {g : Tg} (h : Rel cn c f g) : Rel cn (fill (fill c (40 + 0) 12 1) (40 + 1) 12 1) f (fill g 9 24 1) := by
  refine h.skies (fun b j hb => ?_) (fun b j hb => fill_o _ _ _ _ hb) (fun k hk s hs => ?_)
  · rw [fill_o _ _ _ _ (by omega), fill_o _ _ _ _ (by omega)]
  · rw [fill_i]
    by_cases h1 : k = 1
    · subst h1
      rw [fill_i, if_pos hs, if_pos (by omega)]
    · rw [fill_o _ _ _ _ (by omega)]
      by_cases h0 : k = 0
      · subst h0
        rw [fill_i, if_pos hs, if_pos (by omega)]
      · rw [fill_o _ _ _ _ (by omega), if_neg (by omega)]
        exact h.2.2.1 k hk s hs
theorem Rel.see {cn : Cn} {c : Tg} {f : Tf} {g : Tg} (h : Rel cn c f g) (K S : Nat) (hK : K < 10) (hS : S < 12) (v : Int32) : Rel cn (up2 c (40 + K) S v) f (up2 g 9 (12 * K + S) v) := by
  refine h.skies (fun b j hb => up2_n _ _ _ _ (by omega)) (fun b j hb => up2_n _ _ _ _ hb) (fun k hk s hs => ?_)
  by_cases e : k = K ∧ s = S
  · rw [e.1, e.2, up2_s, up2_s]
  · rw [up2_o _ _ _ _ (by omega), up2_o _ _ _ _ (by omega)]
    exact h.2.2.1 k hk s hs
abbrev MX8_clear : Mi := (yX8_clear, cX8_clear, 2, none, { frames := 0, cells := 0, slots := 0, locals := 0 })
theorem nmX8_clear : Nm yX8_clear 0 := ⟨by decide +kernel, by decide +kernel, by decide +kernel⟩
theorem vcX8_clear_0 {G : Gl} {ad : Nat → Nat} {cn : Cn} {h0 : Hp} {Q : Option Value → Tg → Prop} (g : Tg)  (K : Nat) (hK1 : K < 2 + cW cn) (hK2 : K < 10) (hv : AWC G ad cn h0 MX8_clear Q g 2 [(0, .ref (ad (30 + K))), (1, .int 0)] []) :
    AWC G ad cn h0 MX8_clear Q g 0 [(0, .ref (ad (30 + K)))] [] := by
  refine AWC_iconst (pc := 0) (v := 0) dX8_clear_0 (by decide) ?_
  refine AWC_istore_n (pc := 1) (lv' := [(1, .int 0), (0, .ref (ad (30 + K)))]) dX8_clear_1 rfl (by decide) rfl ?_
  refine AWC_lv (lv' := [(0, .ref (ad (30 + K))), (1, .int 0)]) [1, 0] rfl ?_
  exact hv
theorem vcX8_clear_2 {G : Gl} {ad : Nat → Nat} {cn : Cn} {h0 : Hp} {Q : Option Value → Tg → Prop} (g : Tg)  (K : Nat) (s : Int32) (hK1 : K < 2 + cW cn) (hK2 : K < 10) (hv : ((12 ≤ s → Q none g) ∧ (¬ 12 ≤ s → (vp_in s 12) ∧ AWC G ad cn h0 MX8_clear Q (up2 g (40 + K) s.toNatClampNeg (vp_nar .byte 1)) 2 [(0, .ref (ad (30 + K))), (1, .int (s + 1))] []))) :
    AWC G ad cn h0 MX8_clear Q g 2 [(0, .ref (ad (30 + K))), (1, .int s)] [] := by
  refine AWC_iload_n (pc := 2) dX8_clear_2 rfl 1 rfl ?_
  refine AWC_bipush (pc := 3) (v := 12) dX8_clear_3 (by decide) ?_
  refine AWC_icmp_ge (pc := 5) (tgt := 21) dX8_clear_5 (by decide) (fun c1 => ?_) (fun c1 => ?_)
  · have hv := hv.1 c1
    exact AWC_vret (pc := 21) rfl dX8_clear_21 hv
  · have hv := hv.2 c1
    refine AWC_aload_n (pc := 8) dX8_clear_8 rfl 0 rfl ?_
    refine AWC_getR (pc := 9) (30 + K) 0 (40 + K) (kB_sky hK1 hK2) (rB_see hK2) clX8 (by decide) rfl (FL.o q240) dX8_clear_9 ?_
    refine AWC_iload_n (pc := 12) dX8_clear_12 rfl 1 rfl ?_
    refine AWC_iconst (pc := 13) (v := 1) dX8_clear_13 (by decide) ?_
    have h_2 := hv.1
    have hv := hv.2
    refine AWC_bast (pc := 14) (b := 40 + K) (n := 12) (kB_see hK1 hK2) dX8_clear_14 h_2 ?_
    refine AWC_iinc (pc := 15) (v := s + 1) (lv' := [(1, .int (s + 1)), (0, .ref (ad (30 + K)))]) dX8_clear_15 1 rfl rfl (by decide) rfl ?_
    refine AWC_goto (pc := 18) (tgt := 2) dX8_clear_18 (by decide) ?_
    refine AWC_lv (lv' := [(0, .ref (ad (30 + K))), (1, .int (s + 1))]) [1, 0] rfl ?_
    exact hv
theorem mcX8_clear {G : Gl} {ad : Nat → Nat} (cn : Cn) (g : Tg)  (K : Nat) (hK1 : K < 2 + cW cn) (hK2 : K < 10) : MCC G ad cn MX8_clear [.ref (ad (30 + K))] g (fun v0 g1 => v0 = none ∧ fill g (40 + K) 12 1 = g1) := by
  refine MCC.of ⟨rfl, rfl⟩ (by decide) (Nat.le_of_ble_eq_true rfl) rfl (fun h0 => vcX8_clear_0 g  K hK1 hK2 ?_)
  rw [← fill_0 g (40 + K) 1]
  refine loopUp (A := fun j => AWC G ad cn h0 MX8_clear _ (fill g (40 + K) j 1) 2 [(0, .ref (ad (30 + K))), (1, .int (nI j))] []) 12 ?_ ?_ 0 (by omega)
  · exact vcX8_clear_2 _ K _ hK1 hK2 (br_t (by decide) ⟨rfl, by rw [fill_0]⟩)
  · intro j hj ih
    refine vcX8_clear_2 _ K _ hK1 hK2 (pk_le 12 j (fun z => by omega) (fun _ => ⟨pk_in j 12 (by omega), ?_⟩))
    rw [show vp_nar .byte 1 = 1 by decide, nc j, fill_s, nI_1]
    exact ih
abbrev MX0_slots : Mi := (yX0_slots, cX0_slots, 3, some .int, { frames := 1, cells := 0, slots := 0, locals := 25 })
theorem nmX0_slots : Nm yX0_slots 1 := ⟨by decide +kernel, by decide +kernel, by decide +kernel⟩
theorem vcX0_slots_0 {G : Gl} {ad : Nat → Nat} {cn : Cn} {h0 : Hp} {Q : Option Value → Tg → Prop} (g : Tg) (f : Tf) (gt : Tg) (v : Int32)  (hv : (((inB v 4 12) = true → (0 < 2 + cW cn) ∧ (1 < 2 + cW cn) ∧ Q (some (.int (g 0 0))) (up2 (up2 (fill (fill (up2 g 0 0 v) (40 + 0) 12 1) (40 + 1) 12 1) 0 2 (-1)) 0 6 0)) ∧ ((inB v 4 12) = false → Q (some (.int (-3))) g))) :
    AWC G ad cn h0 MX0_slots Q g 0 [(0, .ref (ad 0)), (1, .int v)] [] := by
  refine AWC_iload_n (pc := 0) dX0_slots_0 rfl 1 rfl ?_
  refine AWC_i2l (pc := 1) dX0_slots_1 ?_
  refine AWC_ldc2 (pc := 2) q352 dX0_slots_2 ?_
  refine AWC_ldc2 (pc := 5) q353 dX0_slots_5 ?_
  refine AWC_callS (M' := MX0_isIn) (pc := 8) [.long (Int32.toInt64 v), .long 4, .long 12] [] nmX0_isIn ⟨rfl, rfl⟩ (ML.o q354) q355 q73 q356 dX0_slots_8 rfl rfl (Nat.le_of_ble_eq_true rfl) ⟨Nat.le_of_ble_eq_true rfl, Nat.le_of_ble_eq_true rfl⟩ (mcX0_isInI cn g v 4 12 (Int32.toInt64 v) 4 12 rfl rfl rfl) ?_
  rintro _ _ ⟨rfl, rfl⟩
  refine AWC_ifb_ne (pc := 11) (tgt := 17) dX0_slots_11 (by decide) (fun c1 => ?_) (fun c1 => ?_)
  · have hv := hv.1 c1
    refine AWC_aload_n (pc := 17) dX0_slots_17 rfl 0 rfl ?_
    refine AWC_getI (pc := 18) (0) 0 rfl clX0 (by decide) rfl (FL.o q251) dX0_slots_18 ?_
    refine AWC_istore_n (pc := 21) (lv' := [(2, .int (g 0 0)), (0, .ref (ad 0)), (1, .int v)]) dX0_slots_21 rfl (by decide) rfl ?_
    refine AWC_aload_n (pc := 22) dX0_slots_22 rfl 1 rfl ?_
    refine AWC_iload_n (pc := 23) dX0_slots_23 rfl 2 rfl ?_
    refine AWC_putI (pc := 24) (0) 0 rfl clX0 (by decide) rfl (FL.o q251) rfl dX0_slots_24 ?_
    refine AWC_aload_n (pc := 27) dX0_slots_27 rfl 1 rfl ?_
    refine AWC_getR (pc := 28) (0) 5 (7) rfl rfl clX0 (by decide) rfl (FL.o q264) dX0_slots_28 ?_
    refine AWC_iconst (pc := 31) (v := 0) dX0_slots_31 (by decide) ?_
    have h_2 := hv.1
    have hv := hv.2
    refine AWC_aald (pc := 32) (b := 7) (b' := 30 + 0) (t := 3) (n := 6) rfl (rB_sky h_2) (by decide) (by decide) dX0_slots_32 (pk_in 0 6 (by decide)) ?_
    refine AWC_callV (M' := MX8_clear) (pc := 33) (a := 30 + 0) [] [] clX8 (kB_sky h_2 (by decide)) rfl nmX8_clear ⟨rfl, rfl⟩ (ML.o q357) q237 q238 q81 q239 dX0_slots_33 rfl rfl (Nat.le_of_ble_eq_true rfl) ⟨Nat.le_of_ble_eq_true rfl, Nat.le_of_ble_eq_true rfl⟩ (mcX8_clear cn (up2 g 0 0 v)  0 h_2 (by decide)) ?_
    rintro _ _ ⟨rfl, rfl⟩
    refine AWC_aload_n (pc := 36) dX0_slots_36 rfl 1 rfl ?_
    refine AWC_getR (pc := 37) (0) 5 (7) rfl rfl clX0 (by decide) rfl (FL.o q264) dX0_slots_37 ?_
    refine AWC_iconst (pc := 40) (v := 1) dX0_slots_40 (by decide) ?_
    have h_3 := hv.1
    have hv := hv.2
    refine AWC_aald (pc := 41) (b := 7) (b' := 30 + 1) (t := 3) (n := 6) rfl (rB_sky h_3) (by decide) (by decide) dX0_slots_41 (pk_in 1 6 (by decide)) ?_
    refine AWC_callV (M' := MX8_clear) (pc := 42) (a := 30 + 1) [] [] clX8 (kB_sky h_3 (by decide)) rfl nmX8_clear ⟨rfl, rfl⟩ (ML.o q357) q237 q238 q81 q239 dX0_slots_42 rfl rfl (Nat.le_of_ble_eq_true rfl) ⟨Nat.le_of_ble_eq_true rfl, Nat.le_of_ble_eq_true rfl⟩ (mcX8_clear cn (fill (up2 g 0 0 v) (40 + 0) 12 1)  1 h_3 (by decide)) ?_
    rintro _ _ ⟨rfl, rfl⟩
    refine AWC_aload_n (pc := 45) dX0_slots_45 rfl 1 rfl ?_
    refine AWC_iconst (pc := 46) (v := (-1)) dX0_slots_46 (by decide) ?_
    refine AWC_putI (pc := 47) (0) 2 rfl clX0 (by decide) rfl (FL.o q257) rfl dX0_slots_47 ?_
    refine AWC_aload_n (pc := 50) dX0_slots_50 rfl 1 rfl ?_
    refine AWC_iconst (pc := 51) (v := 0) dX0_slots_51 (by decide) ?_
    refine AWC_putI (pc := 52) (0) 6 rfl clX0 (by decide) rfl (FL.o q265) rfl dX0_slots_52 ?_
    refine AWC_iload_n (pc := 55) dX0_slots_55 rfl 0 rfl ?_
    exact AWC_iret (pc := 56) rfl rfl dX0_slots_56 hv
  · have hv := hv.2 c1
    refine AWC_bipush (pc := 14) (v := (-3)) dX0_slots_14 (by decide) ?_
    exact AWC_iret (pc := 16) rfl rfl dX0_slots_16 hv
theorem mcX0_slots {G : Gl} {ad : Nat → Nat} (cn : Cn) (g : Tg) (f : Tf) (gt : Tg) (v : Int32) (h1 : Rel cn g f gt) : MCC G ad cn MX0_slots [.ref (ad 0), .int v] g (fun v0 g1 => ∃ r, v0 = some (.int r) ∧ r = rSlots f v ∧ ((inB v 4 12 = false → Rel cn g1 f gt) ∧ (inB v 4 12 = true → Rel (0, cn.2) g1 (fSlots f v) (gSlots gt v)))) := by
  refine MCC.of ⟨rfl, rfl⟩ (by decide) (Nat.le_of_ble_eq_true rfl) rfl (fun h0 => vcX0_slots_0 g f gt v  ?_)
  refine ⟨fun c => ⟨by omega, by omega, _, rfl, by simp only [rSlots, c, if_true]; exact h1.1.1, fun z => absurd (c.symm.trans z) (by decide), fun _ => ?_⟩, fun c => ⟨_, rfl, by simp [rSlots, c], fun _ => h1, fun z => absurd (c.symm.trans z) (by decide)⟩⟩
  simp only [fSlots, gSlots, c, if_true]
  exact (((h1.int 0 0 v (by decide)).clear).int 2 6 (-1) (by decide)).cW0
abbrev MX0_unworld : Mi := (yX0_unworld, cX0_unworld, 2, some .int, { frames := 0, cells := 0, slots := 0, locals := 0 })
theorem nmX0_unworld : Nm yX0_unworld 0 := ⟨by decide +kernel, by decide +kernel, by decide +kernel⟩
theorem vcX0_unworld_0 {G : Gl} {ad : Nat → Nat} {cn : Cn} {h0 : Hp} {Q : Option Value → Tg → Prop} (g : Tg) (f : Tf) (gt : Tg)   (hv : Q (some (.int (g 0 6))) (up2 g 0 6 0)) :
    AWC G ad cn h0 MX0_unworld Q g 0 [(0, .ref (ad 0))] [] := by
  refine AWC_aload_n (pc := 0) dX0_unworld_0 rfl 0 rfl ?_
  refine AWC_getI (pc := 1) (0) 6 rfl clX0 (by decide) rfl (FL.o q265) dX0_unworld_1 ?_
  refine AWC_istore_n (pc := 4) (lv' := [(1, .int (g 0 6)), (0, .ref (ad 0))]) dX0_unworld_4 rfl (by decide) rfl ?_
  refine AWC_aload_n (pc := 5) dX0_unworld_5 rfl 1 rfl ?_
  refine AWC_iconst (pc := 6) (v := 0) dX0_unworld_6 (by decide) ?_
  refine AWC_putI (pc := 7) (0) 6 rfl clX0 (by decide) rfl (FL.o q265) rfl dX0_unworld_7 ?_
  refine AWC_iload_n (pc := 10) dX0_unworld_10 rfl 0 rfl ?_
  exact AWC_iret (pc := 11) rfl rfl dX0_unworld_11 hv
theorem mcX0_unworld {G : Gl} {ad : Nat → Nat} (cn : Cn) (g : Tg) (f : Tf) (gt : Tg)  (h1 : Rel cn g f gt) : MCC G ad cn MX0_unworld [.ref (ad 0)] g (fun v0 g1 => ∃ r, v0 = some (.int r) ∧ r = f 10 ∧ Rel (0, cn.2) g1 (upd f 10 0) gt) := by
  refine MCC.of ⟨rfl, rfl⟩ (by decide) (Nat.le_of_ble_eq_true rfl) rfl (fun h0 => vcX0_unworld_0 g f gt   ?_)
  exact ⟨_, rfl, h1.1.2.2.2.2.2.1, h1.cW0⟩
abbrev MX0_air : Mi := (yX0_air, cX0_air, 3, some .int, { frames := 3, cells := 0, slots := 0, locals := 63 })
theorem nmX0_air : Nm yX0_air 2 := ⟨by decide +kernel, by decide +kernel, by decide +kernel⟩
theorem vcX0_air_0 {G : Gl} {ad : Nat → Nat} {cn : Cn} {h0 : Hp} {Q : Option Value → Tg → Prop} (g : Tg) (f : Tf) (gt : Tg) (t : Int32) (s : Int32)  (hv : (((inB t 0 (g 0 8 - 1)) = false → Q (some (.int (-2))) g) ∧ ((inB t 0 (g 0 8 - 1)) = true → (((inB s 0 (g 0 0 - 1)) = true → (vp_in t 8) ∧ (t.toNatClampNeg < cT cn) ∧ (((visC g t.toNatClampNeg s) = false → Q (some (.int (-1))) g) ∧ ((visC g t.toNatClampNeg s) = true → (vp_in t 8) ∧ (t.toNatClampNeg < cT cn) ∧ Q (some (.int (airC g t.toNatClampNeg s))) g))) ∧ ((inB s 0 (g 0 0 - 1)) = false → Q (some (.int (-2))) g))))) :
    AWC G ad cn h0 MX0_air Q g 0 [(0, .ref (ad 0)), (1, .int t), (2, .int s)] [] := by
  refine AWC_aload_n (pc := 0) dX0_air_0 rfl 0 rfl ?_
  refine AWC_iload_n (pc := 1) dX0_air_1 rfl 1 rfl ?_
  refine AWC_callV (M' := MX0_isTarget) (pc := 2) (a := 0) [.int t] [] clX0 rfl rfl nmX0_isTarget ⟨rfl, rfl⟩ (ML.o q387) q389 qs0 q73 q390 dX0_air_2 rfl rfl (Nat.le_of_ble_eq_true rfl) ⟨Nat.le_of_ble_eq_true rfl, Nat.le_of_ble_eq_true rfl⟩ (mcX0_isTarget cn g  t ) ?_
  rintro _ _ ⟨rfl, rfl⟩
  refine AWC_ifb_eq (pc := 5) (tgt := 16) dX0_air_5 (by decide) (fun c1 => ?_) (fun c1 => ?_)
  · have hv := hv.1 c1
    refine AWC_bipush (pc := 16) (v := (-2)) dX0_air_16 (by decide) ?_
    exact AWC_iret (pc := 18) rfl rfl dX0_air_18 hv
  · have hv := hv.2 c1
    refine AWC_aload_n (pc := 8) dX0_air_8 rfl 0 rfl ?_
    refine AWC_iload_n (pc := 9) dX0_air_9 rfl 2 rfl ?_
    refine AWC_callV (M' := MX0_isSlot) (pc := 10) (a := 0) [.int s] [] clX0 rfl rfl nmX0_isSlot ⟨rfl, rfl⟩ (ML.o q391) q393 qs1 q73 q394 dX0_air_10 rfl rfl (Nat.le_of_ble_eq_true rfl) ⟨Nat.le_of_ble_eq_true rfl, Nat.le_of_ble_eq_true rfl⟩ (mcX0_isSlot cn g  s ) ?_
    rintro _ _ ⟨rfl, rfl⟩
    refine AWC_ifb_ne (pc := 13) (tgt := 19) dX0_air_13 (by decide) (fun c2 => ?_) (fun c2 => ?_)
    · have hv := hv.1 c2
      refine AWC_aload_n (pc := 19) dX0_air_19 rfl 0 rfl ?_
      refine AWC_getR (pc := 20) (0) 7 (8) rfl rfl clX0 (by decide) rfl (FL.o q267) dX0_air_20 ?_
      refine AWC_iload_n (pc := 23) dX0_air_23 rfl 1 rfl ?_
      have h_3 := hv.1
      have hv := hv.2
      have h_4 := hv.1
      have hv := hv.2
      refine AWC_aald (pc := 24) (b := 8) (b' := 50 + t.toNatClampNeg) (t := 4) (n := 8) rfl (rB_tgt h_4) (by decide) (by decide) dX0_air_24 h_3 ?_
      refine AWC_iload_n (pc := 25) dX0_air_25 rfl 2 rfl ?_
      refine AWC_callV (M' := MX10_isVisible) (pc := 26) (a := 50 + t.toNatClampNeg) [.int s] [] clX10 (kB_tgt h_4 (vp_lt10 h_3 (by decide))) rfl nmX10_isVisible ⟨rfl, rfl⟩ (ML.o q395) q396 q397 q83 q398 dX0_air_26 rfl rfl (Nat.le_of_ble_eq_true rfl) ⟨Nat.le_of_ble_eq_true rfl, Nat.le_of_ble_eq_true rfl⟩ (mcX10_isVisible cn g  t.toNatClampNeg s h_4 (vp_lt10 h_3 (by decide))) ?_
      rintro _ _ ⟨rfl, rfl⟩
      refine AWC_ifb_eq (pc := 29) (tgt := 45) dX0_air_29 (by decide) (fun c5 => ?_) (fun c5 => ?_)
      · have hv := hv.1 c5
        refine AWC_iconst (pc := 45) (v := (-1)) dX0_air_45 (by decide) ?_
        exact AWC_iret (pc := 46) rfl rfl dX0_air_46 hv
      · have hv := hv.2 c5
        refine AWC_aload_n (pc := 32) dX0_air_32 rfl 0 rfl ?_
        refine AWC_getR (pc := 33) (0) 7 (8) rfl rfl clX0 (by decide) rfl (FL.o q267) dX0_air_33 ?_
        refine AWC_iload_n (pc := 36) dX0_air_36 rfl 1 rfl ?_
        have h_6 := hv.1
        have hv := hv.2
        have h_7 := hv.1
        have hv := hv.2
        refine AWC_aald (pc := 37) (b := 8) (b' := 50 + t.toNatClampNeg) (t := 4) (n := 8) rfl (rB_tgt h_7) (by decide) (by decide) dX0_air_37 h_6 ?_
        refine AWC_iload_n (pc := 38) dX0_air_38 rfl 2 rfl ?_
        refine AWC_callV (M' := MX10_air) (pc := 39) (a := 50 + t.toNatClampNeg) [.int s] [] clX10 (kB_tgt h_7 (vp_lt10 h_6 (by decide))) rfl nmX10_air ⟨rfl, rfl⟩ (ML.o q406) q400 q401 q83 q402 dX0_air_39 rfl rfl (Nat.le_of_ble_eq_true rfl) ⟨Nat.le_of_ble_eq_true rfl, Nat.le_of_ble_eq_true rfl⟩ (mcX10_air cn g  t.toNatClampNeg s h_7 (vp_lt10 h_6 (by decide))) ?_
        rintro _ _ ⟨rfl, rfl⟩
        refine AWC_goto (pc := 42) (tgt := 46) dX0_air_42 (by decide) ?_
        exact AWC_iret (pc := 46) rfl rfl dX0_air_46 hv
    · have hv := hv.2 c2
      refine AWC_bipush (pc := 16) (v := (-2)) dX0_air_16 (by decide) ?_
      exact AWC_iret (pc := 18) rfl rfl dX0_air_18 hv
theorem mcX0_air {G : Gl} {ad : Nat → Nat} (cn : Cn) (g : Tg) (f : Tf) (gt : Tg) (t : Int32) (s : Int32) (h1 : Rel cn g f gt) (h2 : MI f gt) : MCC G ad cn MX0_air [.ref (ad 0), .int t, .int s] g (fun v0 g1 => v0 = some (.int (rAir f gt t s)) ∧ g = g1) := by
  refine MCC.of ⟨rfl, rfl⟩ (by decide) (Nat.le_of_ble_eq_true rfl) rfl (fun h0 => vcX0_air_0 g f gt t s  ?_)
  obtain ⟨⟨a1, a2, a3, a4, a5, a6, a7, -⟩, ⟨-, w2, -, -, w5, -⟩, -, -, h3, -⟩ := h1
  obtain ⟨-, -, ⟨n, hn, hn8, -⟩, -⟩ := h2
  rw [a1, a7]
  refine ⟨fun c => ⟨by simp [rAir, c], rfl⟩, fun c => ⟨fun c2 => ?_, fun c2 => ⟨by simp [rAir, c, c2], rfl⟩⟩⟩
  rw [hn] at c
  obtain ⟨T, hT, rfl⟩ := inB_lo c (by omega)
  rw [← hn] at c
  have hTc : T < cT cn := by rw [w2, hn, nc n]; exact hT
  obtain ⟨d1, d2, d3⟩ := h3 T hTc
  have hin : vp_in (nI T) 8 := vp_in_nI (by omega) (by decide)
  have ea : airC g T s = airT f gt (nI T) s := by unfold airC airT; rw [d1, a2, nc T]
  have ev : visC g T s = visT f gt (nI T) s := by unfold visC visT; rw [ea, d2, nc T]
  rw [nc T, ev, ea]
  exact ⟨hin, hTc, fun c3 => ⟨by simp [rAir, c, c2, c3], rfl⟩, fun c3 => ⟨hin, hTc, by simp [rAir, c, c2, c3], rfl⟩⟩
abbrev MX0_seeing : Mi := (yX0_seeing, cX0_seeing, 5, some .int, { frames := 2, cells := 0, slots := 0, locals := 46 })
theorem nmX0_seeing : Nm yX0_seeing 3 := ⟨by decide +kernel, by decide +kernel, by decide +kernel⟩
theorem vcX0_seeing_0 {G : Gl} {ad : Nat → Nat} {cn : Cn} {h0 : Hp} {Q : Option Value → Tg → Prop} (g : Tg) (f : Tf) (gt : Tg) (k : Int32) (s : Int32) (v : Int32)  (hv : (((inB s 0 (g 0 0 - 1)) = false → Q (some (.int (-2))) g) ∧ ((inB s 0 (g 0 0 - 1)) = true → (((inB k 0 (1 + g 0 6)) = true → (((inB v 0 4) = true → (vp_in k 6) ∧ (k.toNatClampNeg < 2 + cW cn) ∧ (vp_in s 12) ∧ (vp_in k 6) ∧ (k.toNatClampNeg < 2 + cW cn) ∧ (vp_in s 12) ∧ Q (some (.int (g (40 + k.toNatClampNeg) s.toNatClampNeg))) (up2 g (40 + k.toNatClampNeg) s.toNatClampNeg (vp_nar .byte (Int8.toInt32 (Int32.toInt8 v))))) ∧ ((inB v 0 4) = false → Q (some (.int (-3))) g))) ∧ ((inB k 0 (1 + g 0 6)) = false → Q (some (.int (-2))) g))))) :
    AWC G ad cn h0 MX0_seeing Q g 0 [(0, .ref (ad 0)), (1, .int k), (2, .int s), (3, .int v)] [] := by
  refine AWC_aload_n (pc := 0) dX0_seeing_0 rfl 0 rfl ?_
  refine AWC_iload_n (pc := 1) dX0_seeing_1 rfl 2 rfl ?_
  refine AWC_callV (M' := MX0_isSlot) (pc := 2) (a := 0) [.int s] [] clX0 rfl rfl nmX0_isSlot ⟨rfl, rfl⟩ (ML.o q391) q393 qs1 q73 q394 dX0_seeing_2 rfl rfl (Nat.le_of_ble_eq_true rfl) ⟨Nat.le_of_ble_eq_true rfl, Nat.le_of_ble_eq_true rfl⟩ (mcX0_isSlot cn g  s ) ?_
  rintro _ _ ⟨rfl, rfl⟩
  refine AWC_ifb_eq (pc := 5) (tgt := 16) dX0_seeing_5 (by decide) (fun c1 => ?_) (fun c1 => ?_)
  · have hv := hv.1 c1
    refine AWC_bipush (pc := 16) (v := (-2)) dX0_seeing_16 (by decide) ?_
    exact AWC_iret (pc := 18) rfl rfl dX0_seeing_18 hv
  · have hv := hv.2 c1
    refine AWC_aload_n (pc := 8) dX0_seeing_8 rfl 0 rfl ?_
    refine AWC_iload_n (pc := 9) dX0_seeing_9 rfl 1 rfl ?_
    refine AWC_callV (M' := MX0_isSky) (pc := 10) (a := 0) [.int k] [] clX0 rfl rfl nmX0_isSky ⟨rfl, rfl⟩ (ML.o q415) q417 qs2 q73 q418 dX0_seeing_10 rfl rfl (Nat.le_of_ble_eq_true rfl) ⟨Nat.le_of_ble_eq_true rfl, Nat.le_of_ble_eq_true rfl⟩ (mcX0_isSky cn g  k ) ?_
    rintro _ _ ⟨rfl, rfl⟩
    refine AWC_ifb_ne (pc := 13) (tgt := 19) dX0_seeing_13 (by decide) (fun c2 => ?_) (fun c2 => ?_)
    · have hv := hv.1 c2
      refine AWC_iload_n (pc := 19) dX0_seeing_19 rfl 3 rfl ?_
      refine AWC_i2l (pc := 20) dX0_seeing_20 ?_
      refine AWC_lconst (pc := 21) (v := 0) dX0_seeing_21 (by decide) ?_
      refine AWC_ldc2 (pc := 22) q352 dX0_seeing_22 ?_
      refine AWC_callS (M' := MX0_isIn) (pc := 25) [.long (Int32.toInt64 v), .long 0, .long 4] [] nmX0_isIn ⟨rfl, rfl⟩ (ML.o q354) q355 q73 q356 dX0_seeing_25 rfl rfl (Nat.le_of_ble_eq_true rfl) ⟨Nat.le_of_ble_eq_true rfl, Nat.le_of_ble_eq_true rfl⟩ (mcX0_isInI cn g v 0 4 (Int32.toInt64 v) 0 4 rfl rfl rfl) ?_
      rintro _ _ ⟨rfl, rfl⟩
      refine AWC_ifb_ne (pc := 28) (tgt := 34) dX0_seeing_28 (by decide) (fun c3 => ?_) (fun c3 => ?_)
      · have hv := hv.1 c3
        refine AWC_aload_n (pc := 34) dX0_seeing_34 rfl 0 rfl ?_
        refine AWC_getR (pc := 35) (0) 5 (7) rfl rfl clX0 (by decide) rfl (FL.o q264) dX0_seeing_35 ?_
        refine AWC_iload_n (pc := 38) dX0_seeing_38 rfl 1 rfl ?_
        have h_4 := hv.1
        have hv := hv.2
        have h_5 := hv.1
        have hv := hv.2
        refine AWC_aald (pc := 39) (b := 7) (b' := 30 + k.toNatClampNeg) (t := 3) (n := 6) rfl (rB_sky h_5) (by decide) (by decide) dX0_seeing_39 h_4 ?_
        refine AWC_getR (pc := 40) (30 + k.toNatClampNeg) 0 (40 + k.toNatClampNeg) (kB_sky h_5 (vp_lt10 h_4 (by decide))) (rB_see (vp_lt10 h_4 (by decide))) clX8 (by decide) rfl (FL.n q243) dX0_seeing_40 ?_
        refine AWC_iload_n (pc := 43) dX0_seeing_43 rfl 2 rfl ?_
        have h_6 := hv.1
        have hv := hv.2
        refine AWC_bald (pc := 44) (b := 40 + k.toNatClampNeg) (n := 12) (kB_see h_5 (vp_lt10 h_4 (by decide))) dX0_seeing_44 h_6 ?_
        refine AWC_istore (pc := 45) (lv' := [(4, .int (g (40 + k.toNatClampNeg) s.toNatClampNeg)), (0, .ref (ad 0)), (1, .int k), (2, .int s), (3, .int v)]) dX0_seeing_45 (by decide) rfl ?_
        refine AWC_aload_n (pc := 47) dX0_seeing_47 rfl 1 rfl ?_
        refine AWC_getR (pc := 48) (0) 5 (7) rfl rfl clX0 (by decide) rfl (FL.o q264) dX0_seeing_48 ?_
        refine AWC_iload_n (pc := 51) dX0_seeing_51 rfl 2 rfl ?_
        have h_7 := hv.1
        have hv := hv.2
        have h_8 := hv.1
        have hv := hv.2
        refine AWC_aald (pc := 52) (b := 7) (b' := 30 + k.toNatClampNeg) (t := 3) (n := 6) rfl (rB_sky h_8) (by decide) (by decide) dX0_seeing_52 h_7 ?_
        refine AWC_getR (pc := 53) (30 + k.toNatClampNeg) 0 (40 + k.toNatClampNeg) (kB_sky h_8 (vp_lt10 h_7 (by decide))) (rB_see (vp_lt10 h_7 (by decide))) clX8 (by decide) rfl (FL.n q243) dX0_seeing_53 ?_
        refine AWC_iload_n (pc := 56) dX0_seeing_56 rfl 3 rfl ?_
        refine AWC_iload_n (pc := 57) dX0_seeing_57 rfl 4 rfl ?_
        refine AWC_i2b (pc := 58) dX0_seeing_58 ?_
        have h_9 := hv.1
        have hv := hv.2
        refine AWC_bast (pc := 59) (b := 40 + k.toNatClampNeg) (n := 12) (kB_see h_8 (vp_lt10 h_7 (by decide))) dX0_seeing_59 h_9 ?_
        refine AWC_iload (pc := 60) dX0_seeing_60 0 rfl ?_
        exact AWC_iret (pc := 62) rfl rfl dX0_seeing_62 hv
      · have hv := hv.2 c3
        refine AWC_bipush (pc := 31) (v := (-3)) dX0_seeing_31 (by decide) ?_
        exact AWC_iret (pc := 33) rfl rfl dX0_seeing_33 hv
    · have hv := hv.2 c2
      refine AWC_bipush (pc := 16) (v := (-2)) dX0_seeing_16 (by decide) ?_
      exact AWC_iret (pc := 18) rfl rfl dX0_seeing_18 hv
theorem mcX0_seeing {G : Gl} {ad : Nat → Nat} (cn : Cn) (g : Tg) (f : Tf) (gt : Tg) (k : Int32) (s : Int32) (v : Int32) (h1 : Rel cn g f gt) (h2 : MI f gt) : MCC G ad cn MX0_seeing [.ref (ad 0), .int k, .int s, .int v] g (fun v0 g1 => ∃ r, v0 = some (.int r) ∧ r = rSeeing f gt k s v ∧ Rel cn g1 f (gSeeing f gt k s v)) := by
  refine MCC.of ⟨rfl, rfl⟩ (by decide) (Nat.le_of_ble_eq_true rfl) rfl (fun h0 => vcX0_seeing_0 g f gt k s v  ?_)
  have a1 := h1.1.1
  have a6 := h1.1.2.2.2.2.2.1
  rw [a1, a6]
  refine ⟨fun c => ⟨_, rfl, by simp [rSeeing, okSee, c], by simpa [gSeeing, okSee, c] using h1⟩, fun c => ⟨fun c2 => ⟨fun c3 => ?_, fun c3 => ⟨_, rfl, by simp [rSeeing, okSee, c, c2, c3], by simpa [gSeeing, okSee, c, c2, c3] using h1⟩⟩, fun c2 => ⟨_, rfl, by simp [rSeeing, okSee, c2], by simpa [gSeeing, okSee, c2] using h1⟩⟩⟩
  obtain ⟨K, w, rfl, hK, hw, hw4, hKw⟩ := h2.sky c2
  obtain ⟨S, n, rfl, hS, hn, hn12, hSn⟩ := h2.slot c
  have hcW : cW cn = w := by rw [h1.2.1.1, hw, nc w]
  have e1 : (12 * nI K + nI S : Int32) = nI (12 * K + S) := by rw [lm 12 K, nI_add]
  have ev : vp_nar .byte (Int8.toInt32 (Int32.toInt8 v)) = v := by
    obtain ⟨x, rfl, -, hx⟩ := inB_n (a := 0) (b := 4) rfl rfl (by decide) (by decide) c3
    have : ∀ x, x < 5 → vp_nar .byte (Int8.toInt32 (Int32.toInt8 (nI x))) = nI x := by decide +kernel
    exact this x (by omega)
  rw [ev]
  have i1 : vp_in (nI K) 6 := vp_in_nI (by omega) (by decide)
  have i2 : vp_in (nI S) 12 := vp_in_nI (by omega) (by decide)
  rw [nc K, nc S]
  refine ⟨i1, by omega, i2, i1, by omega, i2, _, rfl, ?_, ?_⟩
  · simp only [rSeeing, okSee, c, c2, c3, Bool.and_self, if_true, e1]
    rw [nc (12 * K + S)]
    exact h1.2.2.1 K (by omega) S hS
  · simp only [gSeeing, okSee, c, c2, c3, Bool.and_self, if_true, e1]
    rw [nc (12 * K + S)]
    exact h1.see K S (by omega) hS v
