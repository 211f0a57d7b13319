section Y6
variable {d : Nat} {H : a_H} {g mm o p n i : Nat} {S : Nat → Int32} {D : t_D} {hs : List t_D} {kp : Option t_D} {tx : List Nat} {x6 x7 : Option Value}
theorem q_n4 {n i : Nat} (hn : n < 1000) (hi : i < 1000) : (nI n - nI 4 < nI i) = (n < i + 4) := by
  apply propext
  rw [Int32.lt_iff_toInt_lt, Int32.toInt_sub, nI_toInt (by omega), nI_toInt (by omega), nI_toInt (by omega), Int.bmod_eq_of_le (by omega) (by omega)]
  omega
theorem l_sw (L : lI H g mm o p n S D hs kp tx) (hi : i + 4 ≤ n) (hn : n < 1000) (k : Nat) (hk : k < 128) : ∃ (H2 : a_H) (y6 y7 : Option Value) (D' : t_D) (hs' : List t_D) (kp' : Option t_D) (tx' : List Nat), lI H2 g mm o p n S D' hs' kp' tx' ∧ lG H H2 ∧ a_run (d+41) ML_law 44 [some (.ref 650), some (.ref g), some (.ref mm), some (.ref o), some (.ref p), some (.int (nI i)), x6, x7] [.int (nI k)] H = a_run (d+41) ML_law 2985 [some (.ref 650), some (.ref g), some (.ref mm), some (.ref o), some (.ref p), some (.int (nI i)), y6, y7] [] (H2) := by
  have kk : k = 0 ∨ k = 1 ∨ k = 2 ∨ k = 3 ∨ k = 4 ∨ k = 5 ∨ k = 6 ∨ k = 7 ∨ k = 8 ∨ k = 9 ∨ k = 10 ∨ k = 11 ∨ k = 12 ∨ k = 13 ∨ k = 14 ∨ k = 15 ∨ k = 16 ∨ k = 17 ∨ k = 18 ∨ k = 19 ∨ k = 20 ∨ k = 21 ∨ k = 22 ∨ k = 23 ∨ k = 24 ∨ k = 25 ∨ k = 26 ∨ k = 27 ∨ k = 28 ∨ k = 29 ∨ k = 30 ∨ k = 31 ∨ k = 32 ∨ k = 33 ∨ k = 34 ∨ k = 35 ∨ k = 36 ∨ k = 37 ∨ k = 38 ∨ k = 39 ∨ k = 40 ∨ k = 41 ∨ k = 42 ∨ k = 43 ∨ k = 44 ∨ k = 45 ∨ k = 46 ∨ k = 47 ∨ k = 48 ∨ k = 49 ∨ k = 50 ∨ k = 51 ∨ k = 52 ∨ k = 53 ∨ k = 54 ∨ k = 55 ∨ k = 56 ∨ k = 57 ∨ k = 58 ∨ k = 59 ∨ k = 60 ∨ k = 61 ∨ k = 62 ∨ k = 63 ∨ k = 64 ∨ 64 < k := by omega
  rcases kk with rfl | rfl | rfl | rfl | rfl | rfl | rfl | rfl | rfl | rfl | rfl | rfl | rfl | rfl | rfl | rfl | rfl | rfl | rfl | rfl | rfl | rfl | rfl | rfl | rfl | rfl | rfl | rfl | rfl | rfl | rfl | rfl | rfl | rfl | rfl | rfl | rfl | rfl | rfl | rfl | rfl | rfl | rfl | rfl | rfl | rfl | rfl | rfl | rfl | rfl | rfl | rfl | rfl | rfl | rfl | rfl | rfl | rfl | rfl | rfl | rfl | rfl | rfl | rfl | rfl | kk
  · obtain ⟨H2, y6, y7, D', hs', kp', tx', L2, gg, e⟩ := l_addBox (d := d) (x6 := x6) (x7 := x7) (i := i) L hi hn
    exact ⟨H2, y6, y7, D', hs', kp', tx', L2, gg, (w_L_law_44_0 (d+41) _ [] H).trans e⟩
  · obtain ⟨H2, y6, y7, D', hs', kp', tx', L2, gg, e⟩ := l_addArrow (d := d) (x6 := x6) (x7 := x7) (i := i) L hi hn
    exact ⟨H2, y6, y7, D', hs', kp', tx', L2, gg, (w_L_law_44_1 (d+41) _ [] H).trans e⟩
  · obtain ⟨H2, y6, y7, D', hs', kp', tx', L2, gg, e⟩ := l_addChain (d := d) (x6 := x6) (x7 := x7) (i := i) L hi hn
    exact ⟨H2, y6, y7, D', hs', kp', tx', L2, gg, (w_L_law_44_2 (d+41) _ [] H).trans e⟩
  · obtain ⟨H2, y6, y7, D', hs', kp', tx', L2, gg, e⟩ := l_removeArrow (d := d) (x6 := x6) (x7 := x7) (i := i) L hi hn
    exact ⟨H2, y6, y7, D', hs', kp', tx', L2, gg, (w_L_law_44_3 (d+41) _ [] H).trans e⟩
  · obtain ⟨H2, y6, y7, D', hs', kp', tx', L2, gg, e⟩ := l_holdDown (d := d) (x6 := x6) (x7 := x7) (i := i) L hi hn
    exact ⟨H2, y6, y7, D', hs', kp', tx', L2, gg, (w_L_law_44_4 (d+41) _ [] H).trans e⟩
  · obtain ⟨H2, y6, y7, D', hs', kp', tx', L2, gg, e⟩ := l_sweepDown (d := d) (x6 := x6) (x7 := x7) (i := i) L hi hn
    exact ⟨H2, y6, y7, D', hs', kp', tx', L2, gg, (w_L_law_44_5 (d+41) _ [] H).trans e⟩
  · obtain ⟨H2, y6, y7, D', hs', kp', tx', L2, gg, e⟩ := l_sweepUp (d := d) (x6 := x6) (x7 := x7) (i := i) L hi hn
    exact ⟨H2, y6, y7, D', hs', kp', tx', L2, gg, (w_L_law_44_6 (d+41) _ [] H).trans e⟩
  · obtain ⟨H2, y6, y7, D', hs', kp', tx', L2, gg, e⟩ := l_untangle (d := d) (x6 := x6) (x7 := x7) (i := i) L hi hn
    exact ⟨H2, y6, y7, D', hs', kp', tx', L2, gg, (w_L_law_44_7 (d+41) _ [] H).trans e⟩
  · obtain ⟨H2, y6, y7, D', hs', kp', tx', L2, gg, e⟩ := l_exchange (d := d) (x6 := x6) (x7 := x7) (i := i) L hi hn
    exact ⟨H2, y6, y7, D', hs', kp', tx', L2, gg, (w_L_law_44_8 (d+41) _ [] H).trans e⟩
  · obtain ⟨H2, y6, y7, D', hs', kp', tx', L2, gg, e⟩ := l_settle (d := d) (x6 := x6) (x7 := x7) (i := i) L hi hn
    exact ⟨H2, y6, y7, D', hs', kp', tx', L2, gg, (w_L_law_44_9 (d+41) _ [] H).trans e⟩
  · obtain ⟨H2, y6, y7, D', hs', kp', tx', L2, gg, e⟩ := l_prune (d := d) (x6 := x6) (x7 := x7) (i := i) L hi hn
    exact ⟨H2, y6, y7, D', hs', kp', tx', L2, gg, (w_L_law_44_10 (d+41) _ [] H).trans e⟩
  · obtain ⟨H2, y6, y7, D', hs', kp', tx', L2, gg, e⟩ := l_turnRound (d := d) (x6 := x6) (x7 := x7) (i := i) L hi hn
    exact ⟨H2, y6, y7, D', hs', kp', tx', L2, gg, (w_L_law_44_11 (d+41) _ [] H).trans e⟩
  · obtain ⟨H2, y6, y7, D', hs', kp', tx', L2, gg, e⟩ := l_boxes (d := d) (x6 := x6) (x7 := x7) (i := i) L hi hn
    exact ⟨H2, y6, y7, D', hs', kp', tx', L2, gg, (w_L_law_44_12 (d+41) _ [] H).trans e⟩
  · obtain ⟨H2, y6, y7, D', hs', kp', tx', L2, gg, e⟩ := l_arrows (d := d) (x6 := x6) (x7 := x7) (i := i) L hi hn
    exact ⟨H2, y6, y7, D', hs', kp', tx', L2, gg, (w_L_law_44_13 (d+41) _ [] H).trans e⟩
  · obtain ⟨H2, y6, y7, D', hs', kp', tx', L2, gg, e⟩ := l_fromOf (d := d) (x6 := x6) (x7 := x7) (i := i) L hi hn
    exact ⟨H2, y6, y7, D', hs', kp', tx', L2, gg, (w_L_law_44_14 (d+41) _ [] H).trans e⟩
  · obtain ⟨H2, y6, y7, D', hs', kp', tx', L2, gg, e⟩ := l_toOf (d := d) (x6 := x6) (x7 := x7) (i := i) L hi hn
    exact ⟨H2, y6, y7, D', hs', kp', tx', L2, gg, (w_L_law_44_15 (d+41) _ [] H).trans e⟩
  · obtain ⟨H2, y6, y7, D', hs', kp', tx', L2, gg, e⟩ := l_whyRefused (d := d) (x6 := x6) (x7 := x7) (i := i) L hi hn
    exact ⟨H2, y6, y7, D', hs', kp', tx', L2, gg, (w_L_law_44_16 (d+41) _ [] H).trans e⟩
  · obtain ⟨H2, y6, y7, D', hs', kp', tx', L2, gg, e⟩ := l_whyNoChain (d := d) (x6 := x6) (x7 := x7) (i := i) L hi hn
    exact ⟨H2, y6, y7, D', hs', kp', tx', L2, gg, (w_L_law_44_17 (d+41) _ [] H).trans e⟩
  · obtain ⟨H2, y6, y7, D', hs', kp', tx', L2, gg, e⟩ := l_doesHear (d := d) (x6 := x6) (x7 := x7) (i := i) L hi hn
    exact ⟨H2, y6, y7, D', hs', kp', tx', L2, gg, (w_L_law_44_18 (d+41) _ [] H).trans e⟩
  · obtain ⟨H2, y6, y7, D', hs', kp', tx', L2, gg, e⟩ := l_hears (d := d) (x6 := x6) (x7 := x7) (i := i) L hi hn
    exact ⟨H2, y6, y7, D', hs', kp', tx', L2, gg, (w_L_law_44_19 (d+41) _ [] H).trans e⟩
  · obtain ⟨H2, y6, y7, D', hs', kp', tx', L2, gg, e⟩ := l_isNeedless (d := d) (x6 := x6) (x7 := x7) (i := i) L hi hn
    exact ⟨H2, y6, y7, D', hs', kp', tx', L2, gg, (w_L_law_44_20 (d+41) _ [] H).trans e⟩
  · obtain ⟨H2, y6, y7, D', hs', kp', tx', L2, gg, e⟩ := l_needless (d := d) (x6 := x6) (x7 := x7) (i := i) L hi hn
    exact ⟨H2, y6, y7, D', hs', kp', tx', L2, gg, (w_L_law_44_21 (d+41) _ [] H).trans e⟩
  · obtain ⟨H2, y6, y7, D', hs', kp', tx', L2, gg, e⟩ := l_ways (d := d) (x6 := x6) (x7 := x7) (i := i) L hi hn
    exact ⟨H2, y6, y7, D', hs', kp', tx', L2, gg, (w_L_law_44_22 (d+41) _ [] H).trans e⟩
  · obtain ⟨H2, y6, y7, D', hs', kp', tx', L2, gg, e⟩ := l_waysByGoingBack (d := d) (x6 := x6) (x7 := x7) (i := i) L hi hn
    exact ⟨H2, y6, y7, D', hs', kp', tx', L2, gg, (w_L_law_44_23 (d+41) _ [] H).trans e⟩
  · obtain ⟨H2, y6, y7, D', hs', kp', tx', L2, gg, e⟩ := l_fewestArrows (d := d) (x6 := x6) (x7 := x7) (i := i) L hi hn
    exact ⟨H2, y6, y7, D', hs', kp', tx', L2, gg, (w_L_law_44_24 (d+41) _ [] H).trans e⟩
  · obtain ⟨H2, y6, y7, D', hs', kp', tx', L2, gg, e⟩ := l_mostArrows (d := d) (x6 := x6) (x7 := x7) (i := i) L hi hn
    exact ⟨H2, y6, y7, D', hs', kp', tx', L2, gg, (w_L_law_44_25 (d+41) _ [] H).trans e⟩
  · obtain ⟨H2, y6, y7, D', hs', kp', tx', L2, gg, e⟩ := l_firstTellers (d := d) (x6 := x6) (x7 := x7) (i := i) L hi hn
    exact ⟨H2, y6, y7, D', hs', kp', tx', L2, gg, (w_L_law_44_26 (d+41) _ [] H).trans e⟩
  · obtain ⟨H2, y6, y7, D', hs', kp', tx', L2, gg, e⟩ := l_lastHearers (d := d) (x6 := x6) (x7 := x7) (i := i) L hi hn
    exact ⟨H2, y6, y7, D', hs', kp', tx', L2, gg, (w_L_law_44_27 (d+41) _ [] H).trans e⟩
  · obtain ⟨H2, y6, y7, D', hs', kp', tx', L2, gg, e⟩ := l_layerOf (d := d) (x6 := x6) (x7 := x7) (i := i) L hi hn
    exact ⟨H2, y6, y7, D', hs', kp', tx', L2, gg, (w_L_law_44_28 (d+41) _ [] H).trans e⟩
  · obtain ⟨H2, y6, y7, D', hs', kp', tx', L2, gg, e⟩ := l_layerByGoingBack (d := d) (x6 := x6) (x7 := x7) (i := i) L hi hn
    exact ⟨H2, y6, y7, D', hs', kp', tx', L2, gg, (w_L_law_44_29 (d+41) _ [] H).trans e⟩
  · obtain ⟨H2, y6, y7, D', hs', kp', tx', L2, gg, e⟩ := l_leastOf (d := d) (x6 := x6) (x7 := x7) (i := i) L hi hn
    exact ⟨H2, y6, y7, D', hs', kp', tx', L2, gg, (w_L_law_44_30 (d+41) _ [] H).trans e⟩
  · obtain ⟨H2, y6, y7, D', hs', kp', tx', L2, gg, e⟩ := l_layers (d := d) (x6 := x6) (x7 := x7) (i := i) L hi hn
    exact ⟨H2, y6, y7, D', hs', kp', tx', L2, gg, (w_L_law_44_31 (d+41) _ [] H).trans e⟩
  · obtain ⟨H2, y6, y7, D', hs', kp', tx', L2, gg, e⟩ := l_spanOf (d := d) (x6 := x6) (x7 := x7) (i := i) L hi hn
    exact ⟨H2, y6, y7, D', hs', kp', tx', L2, gg, (w_L_law_44_32 (d+41) _ [] H).trans e⟩
  · obtain ⟨H2, y6, y7, D', hs', kp', tx', L2, gg, e⟩ := l_pointsOf (d := d) (x6 := x6) (x7 := x7) (i := i) L hi hn
    exact ⟨H2, y6, y7, D', hs', kp', tx', L2, gg, (w_L_law_44_33 (d+41) _ [] H).trans e⟩
  · obtain ⟨H2, y6, y7, D', hs', kp', tx', L2, gg, e⟩ := l_arrowPoints (d := d) (x6 := x6) (x7 := x7) (i := i) L hi hn
    exact ⟨H2, y6, y7, D', hs', kp', tx', L2, gg, (w_L_law_44_34 (d+41) _ [] H).trans e⟩
  · obtain ⟨H2, y6, y7, D', hs', kp', tx', L2, gg, e⟩ := l_pointAt (d := d) (x6 := x6) (x7 := x7) (i := i) L hi hn
    exact ⟨H2, y6, y7, D', hs', kp', tx', L2, gg, (w_L_law_44_35 (d+41) _ [] H).trans e⟩
  · obtain ⟨H2, y6, y7, D', hs', kp', tx', L2, gg, e⟩ := l_placeOf (d := d) (x6 := x6) (x7 := x7) (i := i) L hi hn
    exact ⟨H2, y6, y7, D', hs', kp', tx', L2, gg, (w_L_law_44_36 (d+41) _ [] H).trans e⟩
  · obtain ⟨H2, y6, y7, D', hs', kp', tx', L2, gg, e⟩ := l_medianAbove (d := d) (x6 := x6) (x7 := x7) (i := i) L hi hn
    exact ⟨H2, y6, y7, D', hs', kp', tx', L2, gg, (w_L_law_44_37 (d+41) _ [] H).trans e⟩
  · obtain ⟨H2, y6, y7, D', hs', kp', tx', L2, gg, e⟩ := l_medianBelow (d := d) (x6 := x6) (x7 := x7) (i := i) L hi hn
    exact ⟨H2, y6, y7, D', hs', kp', tx', L2, gg, (w_L_law_44_38 (d+41) _ [] H).trans e⟩
  · obtain ⟨H2, y6, y7, D', hs', kp', tx', L2, gg, e⟩ := l_crowdedLayer (d := d) (x6 := x6) (x7 := x7) (i := i) L hi hn
    exact ⟨H2, y6, y7, D', hs', kp', tx', L2, gg, (w_L_law_44_39 (d+41) _ [] H).trans e⟩
  · obtain ⟨H2, y6, y7, D', hs', kp', tx', L2, gg, e⟩ := l_crossings (d := d) (x6 := x6) (x7 := x7) (i := i) L hi hn
    exact ⟨H2, y6, y7, D', hs', kp', tx', L2, gg, (w_L_law_44_40 (d+41) _ [] H).trans e⟩
  · obtain ⟨H2, y6, y7, D', hs', kp', tx', L2, gg, e⟩ := l_crossingsByPuttingIn (d := d) (x6 := x6) (x7 := x7) (i := i) L hi hn
    exact ⟨H2, y6, y7, D', hs', kp', tx', L2, gg, (w_L_law_44_41 (d+41) _ [] H).trans e⟩
  · obtain ⟨H2, y6, y7, D', hs', kp', tx', L2, gg, e⟩ := l_crossingsBelow (d := d) (x6 := x6) (x7 := x7) (i := i) L hi hn
    exact ⟨H2, y6, y7, D', hs', kp', tx', L2, gg, (w_L_law_44_42 (d+41) _ [] H).trans e⟩
  · obtain ⟨H2, y6, y7, D', hs', kp', tx', L2, gg, e⟩ := l_crossingsOf (d := d) (x6 := x6) (x7 := x7) (i := i) L hi hn
    exact ⟨H2, y6, y7, D', hs', kp', tx', L2, gg, (w_L_law_44_43 (d+41) _ [] H).trans e⟩
  · obtain ⟨H2, y6, y7, D', hs', kp', tx', L2, gg, e⟩ := l_ifSweptDown (d := d) (x6 := x6) (x7 := x7) (i := i) L hi hn
    exact ⟨H2, y6, y7, D', hs', kp', tx', L2, gg, (w_L_law_44_44 (d+41) _ [] H).trans e⟩
  · obtain ⟨H2, y6, y7, D', hs', kp', tx', L2, gg, e⟩ := l_ifSweptUp (d := d) (x6 := x6) (x7 := x7) (i := i) L hi hn
    exact ⟨H2, y6, y7, D', hs', kp', tx', L2, gg, (w_L_law_44_45 (d+41) _ [] H).trans e⟩
  · obtain ⟨H2, y6, y7, D', hs', kp', tx', L2, gg, e⟩ := l_columnAt (d := d) (x6 := x6) (x7 := x7) (i := i) L hi hn
    exact ⟨H2, y6, y7, D', hs', kp', tx', L2, gg, (w_L_law_44_46 (d+41) _ [] H).trans e⟩
  · obtain ⟨H2, y6, y7, D', hs', kp', tx', L2, gg, e⟩ := l_bendsOf (d := d) (x6 := x6) (x7 := x7) (i := i) L hi hn
    exact ⟨H2, y6, y7, D', hs', kp', tx', L2, gg, (w_L_law_44_47 (d+41) _ [] H).trans e⟩
  · obtain ⟨H2, y6, y7, D', hs', kp', tx', L2, gg, e⟩ := l_bends (d := d) (x6 := x6) (x7 := x7) (i := i) L hi hn
    exact ⟨H2, y6, y7, D', hs', kp', tx', L2, gg, (w_L_law_44_48 (d+41) _ [] H).trans e⟩
  · obtain ⟨H2, y6, y7, D', hs', kp', tx', L2, gg, e⟩ := l_widest (d := d) (x6 := x6) (x7 := x7) (i := i) L hi hn
    exact ⟨H2, y6, y7, D', hs', kp', tx', L2, gg, (w_L_law_44_49 (d+41) _ [] H).trans e⟩
  · obtain ⟨H2, y6, y7, D', hs', kp', tx', L2, gg, e⟩ := l_slant (d := d) (x6 := x6) (x7 := x7) (i := i) L hi hn
    exact ⟨H2, y6, y7, D', hs', kp', tx', L2, gg, (w_L_law_44_50 (d+41) _ [] H).trans e⟩
  · obtain ⟨H2, y6, y7, D', hs', kp', tx', L2, gg, e⟩ := l_straightLines (d := d) (x6 := x6) (x7 := x7) (i := i) L hi hn
    exact ⟨H2, y6, y7, D', hs', kp', tx', L2, gg, (w_L_law_44_51 (d+41) _ [] H).trans e⟩
  · obtain ⟨H2, y6, y7, D', hs', kp', tx', L2, gg, e⟩ := l_sweeps (d := d) (x6 := x6) (x7 := x7) (i := i) L hi hn
    exact ⟨H2, y6, y7, D', hs', kp', tx', L2, gg, (w_L_law_44_52 (d+41) _ [] H).trans e⟩
  · obtain ⟨H2, y6, y7, D', hs', kp', tx', L2, gg, e⟩ := l_came (d := d) (x6 := x6) (x7 := x7) (i := i) L hi hn
    exact ⟨H2, y6, y7, D', hs', kp', tx', L2, gg, (w_L_law_44_53 (d+41) _ [] H).trans e⟩
  · obtain ⟨H2, y6, y7, D', hs', kp', tx', L2, gg, e⟩ := l_meanPoints (d := d) (x6 := x6) (x7 := x7) (i := i) L
    exact ⟨H2, y6, y7, D', hs', kp', tx', L2, gg, (w_L_law_44_54 (d+41) _ [] H).trans e⟩
  · obtain ⟨H2, y6, y7, D', hs', kp', tx', L2, gg, e⟩ := l_keep (d := d) (x6 := x6) (x7 := x7) (i := i) L hi hn
    exact ⟨H2, y6, y7, D', hs', kp', tx', L2, gg, (w_L_law_44_55 (d+41) _ [] H).trans e⟩
  · obtain ⟨H2, y6, y7, D', hs', kp', tx', L2, gg, e⟩ := l_goBack (d := d) (x6 := x6) (x7 := x7) (i := i) L hi hn
    exact ⟨H2, y6, y7, D', hs', kp', tx', L2, gg, (w_L_law_44_56 (d+41) _ [] H).trans e⟩
  · obtain ⟨H2, y6, y7, D', hs', kp', tx', L2, gg, e⟩ := l_states (d := d) (x6 := x6) (x7 := x7) (i := i) L hi hn
    exact ⟨H2, y6, y7, D', hs', kp', tx', L2, gg, (w_L_law_44_57 (d+41) _ [] H).trans e⟩
  · obtain ⟨H2, y6, y7, D', hs', kp', tx', L2, gg, e⟩ := l_undo (d := d) (x6 := x6) (x7 := x7) (i := i) L hi hn
    exact ⟨H2, y6, y7, D', hs', kp', tx', L2, gg, (w_L_law_44_58 (d+41) _ [] H).trans e⟩
  · obtain ⟨H2, y6, y7, D', hs', kp', tx', L2, gg, e⟩ := l_type (d := d) (x6 := x6) (x7 := x7) (i := i) L hi hn
    exact ⟨H2, y6, y7, D', hs', kp', tx', L2, gg, (w_L_law_44_59 (d+41) _ [] H).trans e⟩
  · obtain ⟨H2, y6, y7, D', hs', kp', tx', L2, gg, e⟩ := l_clearText (d := d) (x6 := x6) (x7 := x7) (i := i) L hi hn
    exact ⟨H2, y6, y7, D', hs', kp', tx', L2, gg, (w_L_law_44_60 (d+41) _ [] H).trans e⟩
  · obtain ⟨H2, y6, y7, D', hs', kp', tx', L2, gg, e⟩ := l_faultPosition (d := d) (x6 := x6) (x7 := x7) (i := i) L hi hn
    exact ⟨H2, y6, y7, D', hs', kp', tx', L2, gg, (w_L_law_44_61 (d+41) _ [] H).trans e⟩
  · obtain ⟨H2, y6, y7, D', hs', kp', tx', L2, gg, e⟩ := l_faultReason (d := d) (x6 := x6) (x7 := x7) (i := i) L hi hn
    exact ⟨H2, y6, y7, D', hs', kp', tx', L2, gg, (w_L_law_44_62 (d+41) _ [] H).trans e⟩
  · obtain ⟨H2, y6, y7, D', hs', kp', tx', L2, gg, e⟩ := l_faultCause (d := d) (x6 := x6) (x7 := x7) (i := i) L hi hn
    exact ⟨H2, y6, y7, D', hs', kp', tx', L2, gg, (w_L_law_44_63 (d+41) _ [] H).trans e⟩
  · obtain ⟨H2, y6, y7, D', hs', kp', tx', L2, gg, e⟩ := l_play (d := d) (x6 := x6) (x7 := x7) (i := i) L hi hn
    exact ⟨H2, y6, y7, D', hs', kp', tx', L2, gg, (w_L_law_44_64 (d+41) _ [] H).trans e⟩
  · refine ⟨H, x6, x7, D, hs, kp, tx, L, ⟨Nat.le_refl _, Nat.le_add_right _ _, Nat.le_add_right _ _⟩, w_L_law_44 (d+41) _ _ [] H (Or.inr ?_)⟩
    rw [nI_toInt (by omega)]
    omega
theorem l_step (L : lI H g mm o p n S D hs kp tx) (hi : i + 4 ≤ n) (hn : n < 1000) : ∃ (H2 : a_H) (y6 y7 : Option Value) (D' : t_D) (hs' : List t_D) (kp' : Option t_D) (tx' : List Nat), lI H2 g mm o p n S D' hs' kp' tx' ∧ lG H H2 ∧ a_run (d+41) ML_law 28 [some (.ref 650), some (.ref g), some (.ref mm), some (.ref o), some (.ref p), some (.int (nI i)), x6, x7] [] (H) = a_run (d+41) ML_law 28 [some (.ref 650), some (.ref g), some (.ref mm), some (.ref o), some (.ref p), some (.int (nI (i + 4))), y6, y7] [] (H2) := by
  have s := lI_S L
  have a := lS_rd s (show i < n by omega) hn
  have ln := lS_len s
  obtain ⟨c, hc⟩ : ∃ c, S i = nI c := ⟨q_cd (S i), (q_cd_eq (S i)).symm⟩
  rw [hc] at a
  have hk : c &&& 127 < 128 := Nat.lt_succ_of_le Nat.and_le_right
  obtain ⟨H2, y6, y7, D', hs', kp', tx', L2, gg, e⟩ := l_sw (d := d) (x6 := x6) (x7 := x7) L hi hn (c &&& 127) hk
  refine ⟨H2, y6, y7, D', hs', kp', tx', L2, gg, ?_⟩
  rw [w_L_law_28]
  simp (disch := first | omega | assumption | exact Or.inl rfl | exact Or.inr rfl | exact wN_kls (by omega) | exact wE_kls (by omega) | (simp only [a_cat_nil, a_cat_int, a_cat_ref, a_cat_null, a_cat_long]; done) | (simp only [a_cat_nil, a_cat_int, a_cat_ref, a_cat_null, a_cat_long]; omega) | decide | rfl | (apply Or.inr; omega) | (apply Or.inl; omega)) only [w_L_law_30, w_L_law_31, w_L_law_32, w_L_law_33, w_L_law_34, w_L_law_37, w_L_law_38, w_L_law_40, w_L_law_41, w_L_law_43, w_ret, w_exc, Nat.reduceAdd, Option.toList_some, Option.toList_none, List.cons_append, List.nil_append, Option.bind_some, nI_add, q_mul, q_sub, q_eq, q_eqz, q_lt, q_ltz, q_gtz, q_le, q_lez, q_div, q_or, q_and, q_shl, q_shr, q_m1, q_eqm, q_meq, q_mm, q_mlt, q_mgt, q_mlt2, q_dec, Nat.add_sub_cancel, q_ltT, q_ltF, q_leT, q_leF, q_eqT, q_eqF, ↓reduceIte, uN_s, uN_n, upN_app, uG_s, uG_n, uG_uG, if_true, if_false, Nat.reduceMul, Nat.reduceSub, Nat.reduceEqDiff, Nat.reduceLT, and_true, true_and, and_false, false_and, or_true, true_or, or_false, false_or, not_true_eq_false, not_false_eq_true, Option.some.injEq, a, ln]
  rw [e]
  simp (disch := first | omega | assumption | exact Or.inl rfl | exact Or.inr rfl | exact wN_kls (by omega) | exact wE_kls (by omega) | (simp only [a_cat_nil, a_cat_int, a_cat_ref, a_cat_null, a_cat_long]; done) | (simp only [a_cat_nil, a_cat_int, a_cat_ref, a_cat_null, a_cat_long]; omega) | decide | rfl | (apply Or.inr; omega) | (apply Or.inl; omega)) only [w_L_law_2985, w_L_law_2988, w_ret, w_exc, Nat.reduceAdd, Option.toList_some, Option.toList_none, List.cons_append, List.nil_append, Option.bind_some, nI_add, q_mul, q_sub, q_eq, q_eqz, q_lt, q_ltz, q_gtz, q_le, q_lez, q_div, q_or, q_and, q_shl, q_shr, q_m1, q_eqm, q_meq, q_mm, q_mlt, q_mgt, q_mlt2, q_dec, Nat.add_sub_cancel, q_ltT, q_ltF, q_leT, q_leF, q_eqT, q_eqF, ↓reduceIte, uN_s, uN_n, upN_app, uG_s, uG_n, uG_uG, if_true, if_false, Nat.reduceMul, Nat.reduceSub, Nat.reduceEqDiff, Nat.reduceLT, and_true, true_and, and_false, false_and, or_true, true_or, or_false, false_or, not_true_eq_false, not_false_eq_true, Option.some.injEq]
theorem l_loop : ∀ (r i : Nat) (H : a_H) (D : t_D) (hs : List t_D) (kp : Option t_D) (tx : List Nat) (x6 x7 : Option Value), lI H g mm o p n S D hs kp tx → n < 1000 → i ≤ n → n ≤ i + 4 * r → ∃ H' : a_H, H.1 ≤ H'.1 ∧ H'.1 ≤ H.1 + 4000 * r ∧ H'.2.1 ≤ H.2.1 + 70000 * r ∧ a_run (d+41) ML_law 28 [some (.ref 650), some (.ref g), some (.ref mm), some (.ref o), some (.ref p), some (.int (nI i)), x6, x7] [] (H) = some (.inl (some (.int (nI 1))), H')
  | 0, i, H, D, hs, kp, tx, x6, x7, L, hn, hi, hr => by
    have ln := lS_len (lI_S L)
    have z := (q_n4 hn (show i < 1000 by omega)).trans (eq_true (by omega))
    refine ⟨H, Nat.le_refl _, Nat.le_add_right _ _, Nat.le_add_right _ _, ?_⟩
    simp (disch := first | omega | assumption | exact Or.inl rfl | exact Or.inr rfl | exact wN_kls (by omega) | exact wE_kls (by omega) | (simp only [a_cat_nil, a_cat_int, a_cat_ref, a_cat_null, a_cat_long]; done) | (simp only [a_cat_nil, a_cat_int, a_cat_ref, a_cat_null, a_cat_long]; omega) | decide | rfl | (apply Or.inr; omega) | (apply Or.inl; omega)) only [w_L_law_28, w_L_law_30, w_L_law_31, w_L_law_32, w_L_law_33, w_L_law_34, w_L_law_2991, w_L_law_2992, w_ret, w_exc, Nat.reduceAdd, Option.toList_some, Option.toList_none, List.cons_append, List.nil_append, Option.bind_some, nI_add, q_mul, q_eq, q_eqz, q_lt, q_ltz, q_gtz, q_le, q_lez, q_div, q_or, q_and, q_shl, q_shr, q_m1, q_eqm, q_meq, q_mm, q_mlt, q_mgt, q_mlt2, q_dec, Nat.add_sub_cancel, q_ltT, q_ltF, q_leT, q_leF, q_eqT, q_eqF, ↓reduceIte, uN_s, uN_n, upN_app, uG_s, uG_n, uG_uG, if_true, if_false, Nat.reduceMul, Nat.reduceSub, Nat.reduceEqDiff, Nat.reduceLT, and_true, true_and, and_false, false_and, or_true, true_or, or_false, false_or, not_true_eq_false, not_false_eq_true, Option.some.injEq, ln, z]
  | r+1, i, H, D, hs, kp, tx, x6, x7, L, hn, hi, hr => by
    by_cases c : i + 4 ≤ n
    · obtain ⟨H2, y6, y7, D', hs', kp', tx', L2, ⟨g1, g2, g3⟩, e⟩ := l_step (d := d) (x6 := x6) (x7 := x7) L c hn
      obtain ⟨H', b1, b2, b3, b4⟩ := l_loop r (i + 4) H2 D' hs' kp' tx' y6 y7 L2 hn (by omega) (by omega)
      exact ⟨H', by omega, by omega, by omega, e.trans b4⟩
    · have ln := lS_len (lI_S L)
      have z := (q_n4 hn (show i < 1000 by omega)).trans (eq_true (by omega))
      refine ⟨H, Nat.le_refl _, Nat.le_add_right _ _, Nat.le_add_right _ _, ?_⟩
      simp (disch := first | omega | assumption | exact Or.inl rfl | exact Or.inr rfl | exact wN_kls (by omega) | exact wE_kls (by omega) | (simp only [a_cat_nil, a_cat_int, a_cat_ref, a_cat_null, a_cat_long]; done) | (simp only [a_cat_nil, a_cat_int, a_cat_ref, a_cat_null, a_cat_long]; omega) | decide | rfl | (apply Or.inr; omega) | (apply Or.inl; omega)) only [w_L_law_28, w_L_law_30, w_L_law_31, w_L_law_32, w_L_law_33, w_L_law_34, w_L_law_2991, w_L_law_2992, w_ret, w_exc, Nat.reduceAdd, Option.toList_some, Option.toList_none, List.cons_append, List.nil_append, Option.bind_some, nI_add, q_mul, q_eq, q_eqz, q_lt, q_ltz, q_gtz, q_le, q_lez, q_div, q_or, q_and, q_shl, q_shr, q_m1, q_eqm, q_meq, q_mm, q_mlt, q_mgt, q_mlt2, q_dec, Nat.add_sub_cancel, q_ltT, q_ltF, q_leT, q_leF, q_eqT, q_eqF, ↓reduceIte, uN_s, uN_n, upN_app, uG_s, uG_n, uG_uG, if_true, if_false, Nat.reduceMul, Nat.reduceSub, Nat.reduceEqDiff, Nat.reduceLT, and_true, true_and, and_false, false_and, or_true, true_or, or_false, false_or, not_true_eq_false, not_false_eq_true, Option.some.injEq, ln, z]
end Y6
