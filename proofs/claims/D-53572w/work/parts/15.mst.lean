set_option maxHeartbeats 4000000 in
theorem mw_makeStep (l : Launch) (D : va_G) (dA : Nat → ClassId) (h0 hr hp ha hf ht hd : Nat) (row past aside bef txt rd : Nat → Int32) (hs : Nat) (ias : Bool) (ln pa : Nat) {n cu q : Nat} (w : MWf row n cu q) (bst : Option Nat) (e4 : row 4 = oI bst) (hbst : ∀ b, bst = some b → b < 2 ^ n ∧ mMissed row n cu b = none)  : WR l yX3_makeStep cX3_makeStep 7 (some .int) 5 200 0 0 [.ref h0] D dA (mW dA h0 hr hp ha hf ht hd row past aside bef txt rd hs ias ln pa) (some (.int (msRes row n cu q))) (mW dA h0 hr hp ha hf ht hd (msRow row n cu q bst) past aside bef txt rd hs ias ln pa) := by
  refine wr_of (by decide) (Nat.le_of_ble_eq_true rfl) ?_
  intro p e s m below meth c A S hrt hlk K hA hAe H locs hP hD hS ls hl
  obtain ⟨hx, hb, hml, hown, hts⟩ := id S
  obtain ⟨e0, hn, e1, hcu, e3, hq, hray⟩ := id w
  have h2n := pow7 hn
  have hag : Agr (upd row 5 ((row 5) + (nI 1))) row := agr_upd _ _ (Or.inr (Or.inr (Or.inl rfl)))
  have hP : va_P D vwCl [(h0, .inr (3, [.ref hr, .ref hp, .ref ha, .ref hf, .int (nI hs), .int (bI ias), .ref ht, .int (nI ln), .int (nI pa), .ref hd])), (hr, .inl (dA 0, 444, .inl row)), (hp, .inl (dA 0, 1776, .inl past)), (ha, .inl (dA 0, 444, .inl aside)), (hf, .inl (dA 0, 444, .inl bef)), (ht, .inl (dA 3, 60, .inl txt)), (hd, .inl (dA 0, 8, .inl rd))] H := hP
  have hD : va_D A [(h0, .inr (3, [.ref hr, .ref hp, .ref ha, .ref hf, .int (nI hs), .int (bI ias), .ref ht, .int (nI ln), .int (nI pa), .ref hd])), (hr, .inl (dA 0, 444, .inl row)), (hp, .inl (dA 0, 1776, .inl past)), (ha, .inl (dA 0, 444, .inl aside)), (hf, .inl (dA 0, 444, .inl bef)), (ht, .inl (dA 3, 60, .inl txt)), (hd, .inl (dA 0, 8, .inl rd))] := hD
  have hl : lv_has ls 7 [(0, .ref h0)] := hl
  refine lv_aload_n hx hb dX3_makeStep_0 rfl (lv_at hl 0 rfl) ?_
  refine va_get (D := D) (ci := 3) (C := RX3) (T := TX3) (N := 10) hx hb hts in_X3 hown K hP 0 rfl rfl 0 (by decide) (hts _ q1075) (fun _ h9 => h9) rfl dX3_makeStep_1 ?_
  refine lv_iconst (v := nI 1) hx hb dX3_makeStep_4 (by decide) ?_
  refine x_iald hx hb K hP 1 0 rfl rfl 1 rfl (by omega) (by decide) e1 dX3_makeStep_5 ?_
  refine x_ifn_ne (tgt := 14) hx hb dX3_makeStep_6 (by decide) (by omega) (fun h_1 => ?_) (fun h_1 => ?_)
  · refine lv_aload_n hx hb dX3_makeStep_14 rfl (lv_at hl 0 rfl) ?_
    refine x_ret (va_runV (As := []) (rest := []) S (mr_masterPlan l D dA h0 hr [.ref hp, .ref ha, .ref hf, .int (nI hs), .int (bI ias), .ref ht, .int (nI ln), .int (nI pa), .ref hd] row w) (cwV 0 hts (lw_V q1195 q1197 qs32 q69 q1198) rfl rfl rfl hdX3_masterPlan ⟨Nat.le_of_ble_eq_true rfl, Nat.le_of_ble_eq_true rfl⟩) ⟨bb_blind ka_bl _, va_recv K hP (ci := 3) (q0 := 0) rfl rfl, ka_pre K (hP.sub [0, 1] rfl) _⟩ rfl rfl hl.1 rfl (lv_room (Nat.le_of_ble_eq_true rfl)) dX3_makeStep_15 ⟨by omega, by omega⟩) ?_
    refine lv_istore_n (lv' := [(1, .int (oI (mMaster row n cu q))), (0, .ref h0)]) hx hb dX3_makeStep_18 rfl hl (by decide) rfl (fun ls hl => ?_)
    refine lv_iload_n hx hb dX3_makeStep_19 rfl (lv_at hl 0 rfl) ?_
    refine x_ifo_ge (tgt := 26) hx hb dX3_makeStep_20 (by decide) (fun b hb => by have := mMaster_lt hb; omega) (fun pl h_2 => ?_) (fun h_2 => ?_)
    · have hpl := mMaster_lt h_2
      refine lv_aload_n hx hb dX3_makeStep_26 rfl (lv_at hl 1 rfl) ?_
      refine lv_iload_n hx hb dX3_makeStep_27 rfl (lv_at hl 0 rfl) ?_
      refine x_top (y := nI pl) (by rw [h_2]; rfl) ?_
      refine x_ret (va_runV (As := [.int (nI pl)]) (rest := []) S (mr_missed l D dA h0 hr [.ref hp, .ref ha, .ref hf, .int (nI hs), .int (bI ias), .ref ht, .int (nI ln), .int (nI pa), .ref hd] row w pl (by omega)) (cwV 1 hts (lw_V q1239 q1241 qs43 q69 q1242) rfl rfl rfl hdX3_missed ⟨Nat.le_of_ble_eq_true rfl, Nat.le_of_ble_eq_true rfl⟩) ⟨bb_blind ka_bl _, va_recv K hP (ci := 3) (q0 := 0) rfl rfl, ka_pre K (hP.sub [0, 1] rfl) _⟩ rfl rfl hl.1 rfl (lv_room (Nat.le_of_ble_eq_true rfl)) dX3_makeStep_28 ⟨by omega, by omega⟩) ?_
      refine lv_istore_n (lv' := [(2, .int (oI (mMissed row n cu pl))), (1, .int (oI (mMaster row n cu q))), (0, .ref h0)]) hx hb dX3_makeStep_31 rfl hl (by decide) rfl (fun ls hl => ?_)
      refine lv_iload_n hx hb dX3_makeStep_32 rfl (lv_at hl 0 rfl) ?_
      refine x_ifo_ge (tgt := 50) hx hb dX3_makeStep_33 (by decide) (fun b hb => by have := mMissed_lt hb; omega) (fun mc h_3 => ?_) (fun h_3 => ?_)
      · have hmc := mMissed_lt h_3
        refine lv_iconst (v := nI 0) hx hb dX3_makeStep_50 (by decide) ?_
        refine lv_istore_n (lv' := [(3, .int (nI 0)), (2, .int (oI (mMissed row n cu pl))), (1, .int (oI (mMaster row n cu q))), (0, .ref h0)]) hx hb dX3_makeStep_51 rfl hl (by decide) rfl (fun ls hl => ?_)
        refine lv_iload_n hx hb dX3_makeStep_52 rfl (lv_at hl 1 rfl) ?_
        refine x_top (y := nI mc) (by rw [h_3]; rfl) ?_
        refine lv_if_ge (tgt := 69) hx hb dX3_makeStep_53 (by decide) (fun _ => ?_) (fun h => absurd (nI_pos' (n := mc) (by omega)) h)
        refine lv_iconst (v := nI 0) hx hb dX3_makeStep_69 (by decide) ?_
        refine lv_istore (lv' := [(4, .int (nI 0)), (3, .int (nI 0)), (2, .int (oI (mMissed row n cu pl))), (1, .int (oI (mMaster row n cu q))), (0, .ref h0)]) hx hb dX3_makeStep_70 hl (by decide) rfl (fun ls hl => ?_)
        refine lv_iload hx hb dX3_makeStep_72 (lv_at hl 0 rfl) ?_
        refine lv_if_ne (tgt := 91) hx hb dX3_makeStep_74 (by decide) (fun h => absurd h (by decide)) (fun _ => ?_)
        refine lv_aload_n hx hb dX3_makeStep_77 rfl (lv_at hl 4 rfl) ?_
        refine va_get (D := D) (ci := 3) (C := RX3) (T := TX3) (N := 10) hx hb hts in_X3 hown K hP 0 rfl rfl 0 (by decide) (hts _ q1075) (fun _ h9 => h9) rfl dX3_makeStep_78 ?_
        refine lv_iconst (v := nI 3) hx hb dX3_makeStep_81 (by decide) ?_
        refine x_iald hx hb K hP 1 0 rfl rfl 3 rfl (by omega) (by decide) e3 dX3_makeStep_82 ?_
        refine lv_bipush (v := nI 40) hx hb dX3_makeStep_83 (by decide) ?_
        refine x_icmpn_ne (tgt := 91) hx hb dX3_makeStep_85 (by decide) (by omega) (by omega) (fun h_6 => ?_) (fun h_6 => ?_)
        · refine lv_aload_n hx hb dX3_makeStep_91 rfl (lv_at hl 4 rfl) ?_
          refine va_get (D := D) (ci := 3) (C := RX3) (T := TX3) (N := 10) hx hb hts in_X3 hown K hP 0 rfl rfl 0 (by decide) (hts _ q1075) (fun _ h9 => h9) rfl dX3_makeStep_92 ?_
          refine lv_iconst (v := nI 5) hx hb dX3_makeStep_95 (by decide) ?_
          refine lv_dup2_11 hx hb dX3_makeStep_96 rfl rfl ?_
          refine x_iald hx hb K hP 1 0 rfl rfl 5 rfl (by omega) (by decide) rfl dX3_makeStep_97 ?_
          refine lv_iconst (v := nI 1) hx hb dX3_makeStep_98 (by decide) ?_
          refine lv_iadd hx hb dX3_makeStep_99 ?_
          refine x_iast hx hb K hP hD hS 1 0 rfl rfl 5 rfl (by omega) (by decide) dX3_makeStep_100 (fun H locs hP hD hS => ?_)
          have hP : va_P D vwCl [(h0, .inr (3, [.ref hr, .ref hp, .ref ha, .ref hf, .int (nI hs), .int (bI ias), .ref ht, .int (nI ln), .int (nI pa), .ref hd])), (hr, .inl (dA 0, 444, .inl (upd row 5 ((row 5) + (nI 1))))), (hp, .inl (dA 0, 1776, .inl past)), (ha, .inl (dA 0, 444, .inl aside)), (hf, .inl (dA 0, 444, .inl bef)), (ht, .inl (dA 3, 60, .inl txt)), (hd, .inl (dA 0, 8, .inl rd))] H := hP
          have hD : va_D A [(h0, .inr (3, [.ref hr, .ref hp, .ref ha, .ref hf, .int (nI hs), .int (bI ias), .ref ht, .int (nI ln), .int (nI pa), .ref hd])), (hr, .inl (dA 0, 444, .inl (upd row 5 ((row 5) + (nI 1))))), (hp, .inl (dA 0, 1776, .inl past)), (ha, .inl (dA 0, 444, .inl aside)), (hf, .inl (dA 0, 444, .inl bef)), (ht, .inl (dA 3, 60, .inl txt)), (hd, .inl (dA 0, 8, .inl rd))] := hD
          refine lv_iload_n hx hb dX3_makeStep_101 rfl (lv_at hl 2 rfl) ?_
          refine x_top (y := nI mc) (by rw [h_3]; rfl) ?_
          refine lv_if_ge (tgt := 146) hx hb dX3_makeStep_102 (by decide) (fun _ => ?_) (fun h => absurd (nI_pos' (n := mc) (by omega)) h)
          refine lv_iload hx hb dX3_makeStep_146 (lv_at hl 0 rfl) ?_
          refine lv_if_eq (tgt := 153) hx hb dX3_makeStep_148 (by decide) (fun _ => ?_) (fun h => absurd (by decide) h)
          refine lv_bipush (v := nI 84) hx hb dX3_makeStep_153 (by decide) ?_
          refine lv_bipush (v := nI 9) hx hb dX3_makeStep_155 (by decide) ?_
          refine lv_aload_n hx hb dX3_makeStep_157 rfl (lv_at hl 4 rfl) ?_
          refine va_get (D := D) (ci := 3) (C := RX3) (T := TX3) (N := 10) hx hb hts in_X3 hown K hP 0 rfl rfl 0 (by decide) (hts _ q1075) (fun _ h9 => h9) rfl dX3_makeStep_158 ?_
          refine lv_iconst (v := nI 3) hx hb dX3_makeStep_161 (by decide) ?_
          refine x_iald (v := nI q) hx hb K hP 1 0 rfl rfl 3 rfl (by omega) (by decide) (by first | (rw [pk_un (by omega), pk_un (by omega)]; exact e3) | (rw [pk_un (by omega)]; exact e3)) dX3_makeStep_162 ?_
          refine x_mulN hx hb dX3_makeStep_163 ?_
          refine x_addN hx hb dX3_makeStep_164 ?_
          refine lv_istore (lv' := [(5, .int (nI (84 + (9 * q)))), (4, .int (nI 0)), (3, .int (nI 0)), (2, .int (oI (mMissed row n cu pl))), (1, .int (oI (mMaster row n cu q))), (0, .ref h0)]) hx hb dX3_makeStep_165 hl (by decide) rfl (fun ls hl => ?_)
          refine lv_aload_n hx hb dX3_makeStep_167 rfl (lv_at hl 5 rfl) ?_
          refine va_get (D := D) (ci := 3) (C := RX3) (T := TX3) (N := 10) hx hb hts in_X3 hown K hP 0 rfl rfl 0 (by decide) (hts _ q1075) (fun _ h9 => h9) rfl dX3_makeStep_168 ?_
          refine lv_iload hx hb dX3_makeStep_171 (lv_at hl 0 rfl) ?_
          refine lv_iload_n hx hb dX3_makeStep_173 rfl (lv_at hl 3 rfl) ?_
          refine x_top (y := nI mc) (by rw [h_3]; rfl) ?_
          refine x_iast hx hb K hP hD hS 1 0 rfl rfl (84 + (9 * q)) rfl (by omega) (by decide) dX3_makeStep_174 (fun H locs hP hD hS => ?_)
          have hP : va_P D vwCl [(h0, .inr (3, [.ref hr, .ref hp, .ref ha, .ref hf, .int (nI hs), .int (bI ias), .ref ht, .int (nI ln), .int (nI pa), .ref hd])), (hr, .inl (dA 0, 444, .inl (upd (upd row 5 ((row 5) + (nI 1))) (84 + (9 * q)) (nI mc)))), (hp, .inl (dA 0, 1776, .inl past)), (ha, .inl (dA 0, 444, .inl aside)), (hf, .inl (dA 0, 444, .inl bef)), (ht, .inl (dA 3, 60, .inl txt)), (hd, .inl (dA 0, 8, .inl rd))] H := hP
          have hD : va_D A [(h0, .inr (3, [.ref hr, .ref hp, .ref ha, .ref hf, .int (nI hs), .int (bI ias), .ref ht, .int (nI ln), .int (nI pa), .ref hd])), (hr, .inl (dA 0, 444, .inl (upd (upd row 5 ((row 5) + (nI 1))) (84 + (9 * q)) (nI mc)))), (hp, .inl (dA 0, 1776, .inl past)), (ha, .inl (dA 0, 444, .inl aside)), (hf, .inl (dA 0, 444, .inl bef)), (ht, .inl (dA 3, 60, .inl txt)), (hd, .inl (dA 0, 8, .inl rd))] := hD
          refine lv_iconst (v := nI 0) hx hb dX3_makeStep_175 (by decide) ?_
          refine lv_istore (lv' := [(6, .int (nI 0)), (5, .int (nI (84 + (9 * q)))), (4, .int (nI 0)), (3, .int (nI 0)), (2, .int (oI (mMissed row n cu pl))), (1, .int (oI (mMaster row n cu q))), (0, .ref h0)]) hx hb dX3_makeStep_176 hl (by decide) rfl (fun ls hl => ?_)
          rw [cutR_0 (upd row 5 ((row 5) + (nI 1))) q (nI mc) (msVal row n cu pl)] at hP hD
          have hl : lv_has ls 7 [(0, .ref h0), (1, .int (oI (mMaster row n cu q))), (2, .int (oI (mMissed row n cu pl))), (5, .int (nI (84 + (9 * q)))), (6, .int (nI 0))] := lv_sub hl [6, 5, 4, 1, 0] rfl
          rw [h_2, h_3] at hl
          have hl : lv_has ls 7 [(0, .ref h0), (1, .int (nI pl)), (2, .int (nI mc)), (5, .int (nI (84 + (9 * q)))), (6, .int (nI 0))] := hl
          refine lpW (fun _ a => a) () cu (fun k g ls H locs => lv_has ls 7 [(0, .ref h0), (1, .int (nI pl)), (2, .int (nI mc)), (5, .int (nI (84 + (9 * q)))), (6, .int (nI k))] ∧ va_P D vwCl [(h0, .inr (3, [.ref hr, .ref hp, .ref ha, .ref hf, .int (nI hs), .int (bI ias), .ref ht, .int (nI ln), .int (nI pa), .ref hd])), (hr, .inl (dA 0, 444, .inl (cutR (upd row 5 ((row 5) + (nI 1))) q (nI mc) (msVal row n cu pl) k))), (hp, .inl (dA 0, 1776, .inl past)), (ha, .inl (dA 0, 444, .inl aside)), (hf, .inl (dA 0, 444, .inl bef)), (ht, .inl (dA 3, 60, .inl txt)), (hd, .inl (dA 0, 8, .inl rd))] H ∧ va_D A [(h0, .inr (3, [.ref hr, .ref hp, .ref ha, .ref hf, .int (nI hs), .int (bI ias), .ref ht, .int (nI ln), .int (nI pa), .ref hd])), (hr, .inl (dA 0, 444, .inl (cutR (upd row 5 ((row 5) + (nI 1))) q (nI mc) (msVal row n cu pl) k))), (hp, .inl (dA 0, 1776, .inl past)), (ha, .inl (dA 0, 444, .inl aside)), (hf, .inl (dA 0, 444, .inl bef)), (ht, .inl (dA 3, 60, .inl txt)), (hd, .inl (dA 0, 8, .inl rd))] ∧ va_S A s.heap H locs) (fun ls H locs => W p l e (rmW 5 200 0 0) s m ([.ref h0]).toArray below meth c H locs 0 0 (MQ below (QW (some (.int (msRes row n cu q))) D (mW dA h0 hr hp ha hf ht hd (msRow row n cu q bst) past aside bef txt rd hs ias ln pa) A) ([.ref h0]).toArray s 0 0 A) (F0 m 178 ls [])) ?_ ?_ ls H locs ⟨lv_sub hl [0, 1, 2, 3, 4] rfl, hP, hD, hS⟩
          · intro k ls H locs hk_9 hI ih
            have hag2 : Agr (cutR (upd row 5 ((row 5) + (nI 1))) q (nI mc) (msVal row n cu pl) k) row := agr_trans (agr_cutR _ _ _ _ _) (agr_upd _ _ (Or.inr (Or.inr (Or.inl rfl))))
            obtain ⟨hl, hP, hD, hS⟩ := hI
            have hl : lv_has ls 7 [(0, .ref h0), (1, .int (nI pl)), (2, .int (nI mc)), (5, .int (nI (84 + (9 * q)))), (6, .int (nI k))] := hl
            have hP : va_P D vwCl [(h0, .inr (3, [.ref hr, .ref hp, .ref ha, .ref hf, .int (nI hs), .int (bI ias), .ref ht, .int (nI ln), .int (nI pa), .ref hd])), (hr, .inl (dA 0, 444, .inl (cutR (upd row 5 ((row 5) + (nI 1))) q (nI mc) (msVal row n cu pl) k))), (hp, .inl (dA 0, 1776, .inl past)), (ha, .inl (dA 0, 444, .inl aside)), (hf, .inl (dA 0, 444, .inl bef)), (ht, .inl (dA 3, 60, .inl txt)), (hd, .inl (dA 0, 8, .inl rd))] H := hP
            have hD : va_D A [(h0, .inr (3, [.ref hr, .ref hp, .ref ha, .ref hf, .int (nI hs), .int (bI ias), .ref ht, .int (nI ln), .int (nI pa), .ref hd])), (hr, .inl (dA 0, 444, .inl (cutR (upd row 5 ((row 5) + (nI 1))) q (nI mc) (msVal row n cu pl) k))), (hp, .inl (dA 0, 1776, .inl past)), (ha, .inl (dA 0, 444, .inl aside)), (hf, .inl (dA 0, 444, .inl bef)), (ht, .inl (dA 3, 60, .inl txt)), (hd, .inl (dA 0, 8, .inl rd))] := hD
            show W p l e (rmW 5 200 0 0) s m ([.ref h0]).toArray below meth c H locs 0 0 (MQ below (QW (some (.int (msRes row n cu q))) D (mW dA h0 hr hp ha hf ht hd (msRow row n cu q bst) past aside bef txt rd hs ias ln pa) A) ([.ref h0]).toArray s 0 0 A) (F0 m 178 ls [])
            refine lv_iload hx hb dX3_makeStep_178 (lv_at hl 4 rfl) ?_
            refine lv_aload_n hx hb dX3_makeStep_180 rfl (lv_at hl 0 rfl) ?_
            refine va_get (D := D) (ci := 3) (C := RX3) (T := TX3) (N := 10) hx hb hts in_X3 hown K hP 0 rfl rfl 0 (by decide) (hts _ q1075) (fun _ h9 => h9) rfl dX3_makeStep_181 ?_
            refine lv_iconst (v := nI 1) hx hb dX3_makeStep_184 (by decide) ?_
            refine x_iald (v := nI cu) hx hb K hP 1 0 rfl rfl 1 rfl (by omega) (by decide) (by rw [cutR_lo (by omega)]; first | (rw [pk_un (by omega), pk_un (by omega)]; exact e1) | (rw [pk_un (by omega)]; exact e1)) dX3_makeStep_185 ?_
            refine lv_icmp_ge (tgt := 232) hx hb dX3_makeStep_186 (by decide) (fun h => absurd h (nI_ge hk_9 (by omega))) (fun _ => ?_)
            refine lv_aload_n hx hb dX3_makeStep_189 rfl (lv_at hl 0 rfl) ?_
            refine va_get (D := D) (ci := 3) (C := RX3) (T := TX3) (N := 10) hx hb hts in_X3 hown K hP 0 rfl rfl 0 (by decide) (hts _ q1075) (fun _ h9 => h9) rfl dX3_makeStep_190 ?_
            refine lv_iload hx hb dX3_makeStep_193 (lv_at hl 3 rfl) ?_
            refine lv_iconst (v := nI 1) hx hb dX3_makeStep_195 (by decide) ?_
            refine x_addN hx hb dX3_makeStep_196 ?_
            refine lv_iload hx hb dX3_makeStep_197 (lv_at hl 4 rfl) ?_
            refine x_addN hx hb dX3_makeStep_199 ?_
            refine lv_iload_n hx hb dX3_makeStep_200 rfl (lv_at hl 2 rfl) ?_
            refine lv_if_ge (tgt := 224) hx hb dX3_makeStep_201 (by decide) (fun _ => ?_) (fun h => absurd (nI_pos' (n := mc) (by omega)) h)
            refine lv_iconst (v := nI 0) hx hb dX3_makeStep_224 (by decide) ?_
            refine x_iast hx hb K hP hD hS 1 0 rfl rfl (((84 + (9 * q)) + 1) + k) rfl (by omega) (by decide) dX3_makeStep_225 (fun H locs hP hD hS => ?_)
            have hP : va_P D vwCl [(h0, .inr (3, [.ref hr, .ref hp, .ref ha, .ref hf, .int (nI hs), .int (bI ias), .ref ht, .int (nI ln), .int (nI pa), .ref hd])), (hr, .inl (dA 0, 444, .inl (upd (cutR (upd row 5 ((row 5) + (nI 1))) q (nI mc) (msVal row n cu pl) k) (((84 + (9 * q)) + 1) + k) (nI 0)))), (hp, .inl (dA 0, 1776, .inl past)), (ha, .inl (dA 0, 444, .inl aside)), (hf, .inl (dA 0, 444, .inl bef)), (ht, .inl (dA 3, 60, .inl txt)), (hd, .inl (dA 0, 8, .inl rd))] H := hP
            have hD : va_D A [(h0, .inr (3, [.ref hr, .ref hp, .ref ha, .ref hf, .int (nI hs), .int (bI ias), .ref ht, .int (nI ln), .int (nI pa), .ref hd])), (hr, .inl (dA 0, 444, .inl (upd (cutR (upd row 5 ((row 5) + (nI 1))) q (nI mc) (msVal row n cu pl) k) (((84 + (9 * q)) + 1) + k) (nI 0)))), (hp, .inl (dA 0, 1776, .inl past)), (ha, .inl (dA 0, 444, .inl aside)), (hf, .inl (dA 0, 444, .inl bef)), (ht, .inl (dA 3, 60, .inl txt)), (hd, .inl (dA 0, 8, .inl rd))] := hD
            refine lv_iinc (v := nI (k + 1)) (lv' := [(6, .int (nI (k + 1))), (0, .ref h0), (1, .int (nI pl)), (2, .int (nI mc)), (5, .int (nI (84 + (9 * q))))]) hx hb dX3_makeStep_226 hl (k := 4) rfl (nI_1 k) (by decide) rfl (fun ls hl => ?_)
            refine lv_goto (tgt := 178) hx hb dX3_makeStep_229 (by decide) ?_
            have hcs := cutR_s (upd row 5 ((row 5) + (nI 1))) q (nI mc) (msVal row n cu pl) k
            rw [show (msVal row n cu pl k) = (nI 0) from (by simp [msVal, h_3])] at hcs
            rw [hcs] at hP hD
            refine ih ls H locs ⟨?_, hP, hD, hS⟩
            show lv_has ls 7 [(0, .ref h0), (1, .int (nI pl)), (2, .int (nI mc)), (5, .int (nI (84 + (9 * q)))), (6, .int (nI (k + 1)))]
            exact lv_sub hl [1, 2, 3, 4, 0] rfl
          · intro ls H locs hI
            obtain ⟨hl, hP, hD, hS⟩ := hI
            have hl : lv_has ls 7 [(0, .ref h0), (1, .int (nI pl)), (2, .int (nI mc)), (5, .int (nI (84 + (9 * q)))), (6, .int (nI cu))] := hl
            have hP : va_P D vwCl [(h0, .inr (3, [.ref hr, .ref hp, .ref ha, .ref hf, .int (nI hs), .int (bI ias), .ref ht, .int (nI ln), .int (nI pa), .ref hd])), (hr, .inl (dA 0, 444, .inl (cutR (upd row 5 ((row 5) + (nI 1))) q (nI mc) (msVal row n cu pl) cu))), (hp, .inl (dA 0, 1776, .inl past)), (ha, .inl (dA 0, 444, .inl aside)), (hf, .inl (dA 0, 444, .inl bef)), (ht, .inl (dA 3, 60, .inl txt)), (hd, .inl (dA 0, 8, .inl rd))] H := hP
            have hD : va_D A [(h0, .inr (3, [.ref hr, .ref hp, .ref ha, .ref hf, .int (nI hs), .int (bI ias), .ref ht, .int (nI ln), .int (nI pa), .ref hd])), (hr, .inl (dA 0, 444, .inl (cutR (upd row 5 ((row 5) + (nI 1))) q (nI mc) (msVal row n cu pl) cu))), (hp, .inl (dA 0, 1776, .inl past)), (ha, .inl (dA 0, 444, .inl aside)), (hf, .inl (dA 0, 444, .inl bef)), (ht, .inl (dA 3, 60, .inl txt)), (hd, .inl (dA 0, 8, .inl rd))] := hD
            show W p l e (rmW 5 200 0 0) s m ([.ref h0]).toArray below meth c H locs 0 0 (MQ below (QW (some (.int (msRes row n cu q))) D (mW dA h0 hr hp ha hf ht hd (msRow row n cu q bst) past aside bef txt rd hs ias ln pa) A) ([.ref h0]).toArray s 0 0 A) (F0 m 178 ls [])
            refine lv_iload hx hb dX3_makeStep_178 (lv_at hl 4 rfl) ?_
            refine lv_aload_n hx hb dX3_makeStep_180 rfl (lv_at hl 0 rfl) ?_
            refine va_get (D := D) (ci := 3) (C := RX3) (T := TX3) (N := 10) hx hb hts in_X3 hown K hP 0 rfl rfl 0 (by decide) (hts _ q1075) (fun _ h9 => h9) rfl dX3_makeStep_181 ?_
            refine lv_iconst (v := nI 1) hx hb dX3_makeStep_184 (by decide) ?_
            refine x_iald (v := nI cu) hx hb K hP 1 0 rfl rfl 1 rfl (by omega) (by decide) (by rw [cutR_lo (by omega)]; first | (rw [pk_un (by omega), pk_un (by omega)]; exact e1) | (rw [pk_un (by omega)]; exact e1)) dX3_makeStep_185 ?_
            refine lv_icmp_ge (tgt := 232) hx hb dX3_makeStep_186 (by decide) (fun _ => ?_) (fun h => absurd (nI_le (by omega) (by omega)) h)
            refine lv_aload_n hx hb dX3_makeStep_232 rfl (lv_at hl 0 rfl) ?_
            refine va_get (D := D) (ci := 3) (C := RX3) (T := TX3) (N := 10) hx hb hts in_X3 hown K hP 0 rfl rfl 0 (by decide) (hts _ q1075) (fun _ h9 => h9) rfl dX3_makeStep_233 ?_
            refine lv_iconst (v := nI 3) hx hb dX3_makeStep_236 (by decide) ?_
            refine lv_dup2_11 hx hb dX3_makeStep_237 rfl rfl ?_
            refine x_iald (v := nI q) hx hb K hP 1 0 rfl rfl 3 rfl (by omega) (by decide) (by rw [cutR_lo (by omega)]; first | (rw [pk_un (by omega), pk_un (by omega)]; exact e3) | (rw [pk_un (by omega)]; exact e3)) dX3_makeStep_238 ?_
            refine lv_iconst (v := nI 1) hx hb dX3_makeStep_239 (by decide) ?_
            refine x_addN hx hb dX3_makeStep_240 ?_
            refine x_iast hx hb K hP hD hS 1 0 rfl rfl 3 rfl (by omega) (by decide) dX3_makeStep_241 (fun H locs hP hD hS => ?_)
            have hP : va_P D vwCl [(h0, .inr (3, [.ref hr, .ref hp, .ref ha, .ref hf, .int (nI hs), .int (bI ias), .ref ht, .int (nI ln), .int (nI pa), .ref hd])), (hr, .inl (dA 0, 444, .inl (upd (cutR (upd row 5 ((row 5) + (nI 1))) q (nI mc) (msVal row n cu pl) cu) 3 (nI (q + 1))))), (hp, .inl (dA 0, 1776, .inl past)), (ha, .inl (dA 0, 444, .inl aside)), (hf, .inl (dA 0, 444, .inl bef)), (ht, .inl (dA 3, 60, .inl txt)), (hd, .inl (dA 0, 8, .inl rd))] H := hP
            have hD : va_D A [(h0, .inr (3, [.ref hr, .ref hp, .ref ha, .ref hf, .int (nI hs), .int (bI ias), .ref ht, .int (nI ln), .int (nI pa), .ref hd])), (hr, .inl (dA 0, 444, .inl (upd (cutR (upd row 5 ((row 5) + (nI 1))) q (nI mc) (msVal row n cu pl) cu) 3 (nI (q + 1))))), (hp, .inl (dA 0, 1776, .inl past)), (ha, .inl (dA 0, 444, .inl aside)), (hf, .inl (dA 0, 444, .inl bef)), (ht, .inl (dA 3, 60, .inl txt)), (hd, .inl (dA 0, 8, .inl rd))] := hD
            refine lv_iload_n hx hb dX3_makeStep_242 rfl (lv_at hl 2 rfl) ?_
            refine lv_if_ge (tgt := 250) hx hb dX3_makeStep_243 (by decide) (fun _ => ?_) (fun h => absurd (nI_pos' (n := mc) (by omega)) h)
            refine lv_iconst (v := nI 0) hx hb dX3_makeStep_250 (by decide) ?_
            rw [show msRow row n cu q bst = upd (cutR (upd row 5 ((row 5) + (nI 1))) q (nI mc) (msVal row n cu pl) cu) 3 (nI (q + 1)) from (by simp [msRow, msRes, msPlan, msSolved, msBest, msRow2, mCost, oI_n, oI_s, h_1, h_2, h_3, h_6])]
            exact x_viret hx hb hrt hlk (by simp [msRow, msRes, msPlan, msSolved, msBest, msRow2, mCost, oI_n, oI_s, h_1, h_2, h_3, h_6]) hP hD hS dX3_makeStep_251 (Nat.le_of_ble_eq_true rfl) (Nat.le_of_ble_eq_true rfl)
        · refine lv_bipush (v := -3) hx hb dX3_makeStep_88 (by decide) ?_
          rw [show msRow row n cu q bst = row from (by simp [msRow, msRes, msPlan, msSolved, msBest, msRow2, mCost, oI_n, oI_s, h_1, h_2, h_3, eq_true h_6])]
          exact x_viret hx hb hrt hlk (by simp [msRow, msRes, msPlan, msSolved, msBest, msRow2, mCost, oI_n, oI_s, h_1, h_2, h_3, eq_true h_6]) hP hD hS dX3_makeStep_90 (Nat.le_of_ble_eq_true rfl) (Nat.le_of_ble_eq_true rfl)
      · have hsv0 := miss_none h_3
        refine lv_aload_n hx hb dX3_makeStep_36 rfl (lv_at hl 2 rfl) ?_
        refine lv_iload_n hx hb dX3_makeStep_37 rfl (lv_at hl 1 rfl) ?_
        refine x_top (y := nI pl) (by rw [h_2]; rfl) ?_
        refine x_ret (va_runV (As := [.int (nI pl)]) (rest := []) S (mr_prices l D dA h0 hr [.ref hp, .ref ha, .ref hf, .int (nI hs), .int (bI ias), .ref ht, .int (nI ln), .int (nI pa), .ref hd] row w pl (by omega)) (cwV 1 hts (lw_V q1235 q1237 qs42 q69 q1238) rfl rfl rfl hdX3_prices ⟨Nat.le_of_ble_eq_true rfl, Nat.le_of_ble_eq_true rfl⟩) ⟨bb_blind ka_bl _, va_recv K hP (ci := 3) (q0 := 0) rfl rfl, ka_pre K (hP.sub [0, 1] rfl) _⟩ rfl rfl hl.1 rfl (lv_room (Nat.le_of_ble_eq_true rfl)) dX3_makeStep_38 ⟨by omega, by omega⟩) ?_
        refine lv_aload_n hx hb dX3_makeStep_41 rfl (lv_at hl 2 rfl) ?_
        refine lv_iload_n hx hb dX3_makeStep_42 rfl (lv_at hl 1 rfl) ?_
        refine x_top (y := nI pl) (by rw [h_2]; rfl) ?_
        refine x_ret (va_runV (As := [.int (nI pl)]) (rest := [.int (mPrices row n pl)]) S (mr_routes l D dA h0 hr [.ref hp, .ref ha, .ref hf, .int (nI hs), .int (bI ias), .ref ht, .int (nI ln), .int (nI pa), .ref hd] row w pl (by omega) hsv0) (cwV 1 hts (lw_V q1243 q1245 qs44 q69 q1246) rfl rfl rfl hdX3_routes ⟨Nat.le_of_ble_eq_true rfl, Nat.le_of_ble_eq_true rfl⟩) ⟨bb_blind ka_bl _, va_recv K hP (ci := 3) (q0 := 0) rfl rfl, ka_pre K (hP.sub [0, 1] rfl) _⟩ rfl rfl hl.1 rfl (lv_room (Nat.le_of_ble_eq_true rfl)) dX3_makeStep_43 ⟨by omega, by omega⟩) ?_
        refine lv_iadd hx hb dX3_makeStep_46 ?_
        refine lv_goto (tgt := 51) hx hb dX3_makeStep_47 (by decide) ?_
        refine lv_istore_n (lv' := [(3, .int ((mPrices row n pl) + (mRoutes row n cu pl))), (2, .int (oI (mMissed row n cu pl))), (1, .int (oI (mMaster row n cu q))), (0, .ref h0)]) hx hb dX3_makeStep_51 rfl hl (by decide) rfl (fun ls hl => ?_)
        refine lv_iload_n hx hb dX3_makeStep_52 rfl (lv_at hl 1 rfl) ?_
        refine x_top (y := -5) (by rw [h_3]; rfl) ?_
        refine lv_if_ge (tgt := 69) hx hb dX3_makeStep_53 (by decide) (fun h => absurd h (by decide)) (fun _ => ?_)
        refine lv_iload_n hx hb dX3_makeStep_56 rfl (lv_at hl 0 rfl) ?_
        refine lv_aload_n hx hb dX3_makeStep_57 rfl (lv_at hl 3 rfl) ?_
        refine lv_iload_n hx hb dX3_makeStep_58 rfl (lv_at hl 2 rfl) ?_
        refine x_top (y := nI pl) (by rw [h_2]; rfl) ?_
        refine x_ret (va_runV (As := [.int (nI pl)]) (rest := [.int ((mPrices row n pl) + (mRoutes row n cu pl))]) S (mr_guess l D dA h0 hr [.ref hp, .ref ha, .ref hf, .int (nI hs), .int (bI ias), .ref ht, .int (nI ln), .int (nI pa), .ref hd] row w pl (by omega)) (cwV 1 hts (lw_V q1223 q1225 qs39 q69 q1226) rfl rfl rfl hdX3_guess ⟨Nat.le_of_ble_eq_true rfl, Nat.le_of_ble_eq_true rfl⟩) ⟨bb_blind ka_bl _, va_recv K hP (ci := 3) (q0 := 0) rfl rfl, ka_pre K (hP.sub [0, 1] rfl) _⟩ rfl rfl hl.1 rfl (lv_room (Nat.le_of_ble_eq_true rfl)) dX3_makeStep_59 ⟨by omega, by omega⟩) ?_
        refine lv_icmp_ne (tgt := 69) hx hb dX3_makeStep_62 (by decide) (fun h_15 => ?_) (fun h_15 => ?_)
        · refine lv_iconst (v := nI 0) hx hb dX3_makeStep_69 (by decide) ?_
          refine lv_istore (lv' := [(4, .int (nI 0)), (3, .int ((mPrices row n pl) + (mRoutes row n cu pl))), (2, .int (oI (mMissed row n cu pl))), (1, .int (oI (mMaster row n cu q))), (0, .ref h0)]) hx hb dX3_makeStep_70 hl (by decide) rfl (fun ls hl => ?_)
          refine lv_iload hx hb dX3_makeStep_72 (lv_at hl 0 rfl) ?_
          refine lv_if_ne (tgt := 91) hx hb dX3_makeStep_74 (by decide) (fun h => absurd h (by decide)) (fun _ => ?_)
          refine lv_aload_n hx hb dX3_makeStep_77 rfl (lv_at hl 4 rfl) ?_
          refine va_get (D := D) (ci := 3) (C := RX3) (T := TX3) (N := 10) hx hb hts in_X3 hown K hP 0 rfl rfl 0 (by decide) (hts _ q1075) (fun _ h9 => h9) rfl dX3_makeStep_78 ?_
          refine lv_iconst (v := nI 3) hx hb dX3_makeStep_81 (by decide) ?_
          refine x_iald hx hb K hP 1 0 rfl rfl 3 rfl (by omega) (by decide) e3 dX3_makeStep_82 ?_
          refine lv_bipush (v := nI 40) hx hb dX3_makeStep_83 (by decide) ?_
          refine x_icmpn_ne (tgt := 91) hx hb dX3_makeStep_85 (by decide) (by omega) (by omega) (fun h_17 => ?_) (fun h_17 => ?_)
          · refine lv_aload_n hx hb dX3_makeStep_91 rfl (lv_at hl 4 rfl) ?_
            refine va_get (D := D) (ci := 3) (C := RX3) (T := TX3) (N := 10) hx hb hts in_X3 hown K hP 0 rfl rfl 0 (by decide) (hts _ q1075) (fun _ h9 => h9) rfl dX3_makeStep_92 ?_
            refine lv_iconst (v := nI 5) hx hb dX3_makeStep_95 (by decide) ?_
            refine lv_dup2_11 hx hb dX3_makeStep_96 rfl rfl ?_
            refine x_iald hx hb K hP 1 0 rfl rfl 5 rfl (by omega) (by decide) rfl dX3_makeStep_97 ?_
            refine lv_iconst (v := nI 1) hx hb dX3_makeStep_98 (by decide) ?_
            refine lv_iadd hx hb dX3_makeStep_99 ?_
            refine x_iast hx hb K hP hD hS 1 0 rfl rfl 5 rfl (by omega) (by decide) dX3_makeStep_100 (fun H locs hP hD hS => ?_)
            have hP : va_P D vwCl [(h0, .inr (3, [.ref hr, .ref hp, .ref ha, .ref hf, .int (nI hs), .int (bI ias), .ref ht, .int (nI ln), .int (nI pa), .ref hd])), (hr, .inl (dA 0, 444, .inl (upd row 5 ((row 5) + (nI 1))))), (hp, .inl (dA 0, 1776, .inl past)), (ha, .inl (dA 0, 444, .inl aside)), (hf, .inl (dA 0, 444, .inl bef)), (ht, .inl (dA 3, 60, .inl txt)), (hd, .inl (dA 0, 8, .inl rd))] H := hP
            have hD : va_D A [(h0, .inr (3, [.ref hr, .ref hp, .ref ha, .ref hf, .int (nI hs), .int (bI ias), .ref ht, .int (nI ln), .int (nI pa), .ref hd])), (hr, .inl (dA 0, 444, .inl (upd row 5 ((row 5) + (nI 1))))), (hp, .inl (dA 0, 1776, .inl past)), (ha, .inl (dA 0, 444, .inl aside)), (hf, .inl (dA 0, 444, .inl bef)), (ht, .inl (dA 3, 60, .inl txt)), (hd, .inl (dA 0, 8, .inl rd))] := hD
            refine lv_iload_n hx hb dX3_makeStep_101 rfl (lv_at hl 2 rfl) ?_
            refine x_top (y := -5) (by rw [h_3]; rfl) ?_
            refine lv_if_ge (tgt := 146) hx hb dX3_makeStep_102 (by decide) (fun h => absurd h (by decide)) (fun _ => ?_)
            refine lv_aload_n hx hb dX3_makeStep_105 rfl (lv_at hl 4 rfl) ?_
            refine va_get (D := D) (ci := 3) (C := RX3) (T := TX3) (N := 10) hx hb hts in_X3 hown K hP 0 rfl rfl 0 (by decide) (hts _ q1075) (fun _ h9 => h9) rfl dX3_makeStep_106 ?_
            refine lv_iconst (v := nI 4) hx hb dX3_makeStep_109 (by decide) ?_
            refine x_iald (v := oI bst) hx hb K hP 1 0 rfl rfl 4 rfl (by omega) (by decide) (by rw [pk_un (by omega)]; exact e4) dX3_makeStep_110 ?_
            refine x_ifo_lt (tgt := 139) hx hb dX3_makeStep_111 (by decide) (fun b hb => by have := (hbst b hb).1; omega) (fun h_19 => ?_) (fun bb h_19 => ?_)
            · refine lv_aload_n hx hb dX3_makeStep_139 rfl (lv_at hl 4 rfl) ?_
              refine va_get (D := D) (ci := 3) (C := RX3) (T := TX3) (N := 10) hx hb hts in_X3 hown K hP 0 rfl rfl 0 (by decide) (hts _ q1075) (fun _ h9 => h9) rfl dX3_makeStep_140 ?_
              refine lv_iconst (v := nI 4) hx hb dX3_makeStep_143 (by decide) ?_
              refine lv_iload_n hx hb dX3_makeStep_144 rfl (lv_at hl 3 rfl) ?_
              refine x_top (y := nI pl) (by rw [h_2]; rfl) ?_
              refine x_iast hx hb K hP hD hS 1 0 rfl rfl 4 rfl (by omega) (by decide) dX3_makeStep_145 (fun H locs hP hD hS => ?_)
              have hP : va_P D vwCl [(h0, .inr (3, [.ref hr, .ref hp, .ref ha, .ref hf, .int (nI hs), .int (bI ias), .ref ht, .int (nI ln), .int (nI pa), .ref hd])), (hr, .inl (dA 0, 444, .inl (upd (upd row 5 ((row 5) + (nI 1))) 4 (nI pl)))), (hp, .inl (dA 0, 1776, .inl past)), (ha, .inl (dA 0, 444, .inl aside)), (hf, .inl (dA 0, 444, .inl bef)), (ht, .inl (dA 3, 60, .inl txt)), (hd, .inl (dA 0, 8, .inl rd))] H := hP
              have hD : va_D A [(h0, .inr (3, [.ref hr, .ref hp, .ref ha, .ref hf, .int (nI hs), .int (bI ias), .ref ht, .int (nI ln), .int (nI pa), .ref hd])), (hr, .inl (dA 0, 444, .inl (upd (upd row 5 ((row 5) + (nI 1))) 4 (nI pl)))), (hp, .inl (dA 0, 1776, .inl past)), (ha, .inl (dA 0, 444, .inl aside)), (hf, .inl (dA 0, 444, .inl bef)), (ht, .inl (dA 3, 60, .inl txt)), (hd, .inl (dA 0, 8, .inl rd))] := hD
              refine lv_iload hx hb dX3_makeStep_146 (lv_at hl 0 rfl) ?_
              refine lv_if_eq (tgt := 153) hx hb dX3_makeStep_148 (by decide) (fun _ => ?_) (fun h => absurd (by decide) h)
              refine lv_bipush (v := nI 84) hx hb dX3_makeStep_153 (by decide) ?_
              refine lv_bipush (v := nI 9) hx hb dX3_makeStep_155 (by decide) ?_
              refine lv_aload_n hx hb dX3_makeStep_157 rfl (lv_at hl 4 rfl) ?_
              refine va_get (D := D) (ci := 3) (C := RX3) (T := TX3) (N := 10) hx hb hts in_X3 hown K hP 0 rfl rfl 0 (by decide) (hts _ q1075) (fun _ h9 => h9) rfl dX3_makeStep_158 ?_
              refine lv_iconst (v := nI 3) hx hb dX3_makeStep_161 (by decide) ?_
              refine x_iald (v := nI q) hx hb K hP 1 0 rfl rfl 3 rfl (by omega) (by decide) (by first | (rw [pk_un (by omega), pk_un (by omega)]; exact e3) | (rw [pk_un (by omega)]; exact e3)) dX3_makeStep_162 ?_
              refine x_mulN hx hb dX3_makeStep_163 ?_
              refine x_addN hx hb dX3_makeStep_164 ?_
              refine lv_istore (lv' := [(5, .int (nI (84 + (9 * q)))), (4, .int (nI 0)), (3, .int ((mPrices row n pl) + (mRoutes row n cu pl))), (2, .int (oI (mMissed row n cu pl))), (1, .int (oI (mMaster row n cu q))), (0, .ref h0)]) hx hb dX3_makeStep_165 hl (by decide) rfl (fun ls hl => ?_)
              refine lv_aload_n hx hb dX3_makeStep_167 rfl (lv_at hl 5 rfl) ?_
              refine va_get (D := D) (ci := 3) (C := RX3) (T := TX3) (N := 10) hx hb hts in_X3 hown K hP 0 rfl rfl 0 (by decide) (hts _ q1075) (fun _ h9 => h9) rfl dX3_makeStep_168 ?_
              refine lv_iload hx hb dX3_makeStep_171 (lv_at hl 0 rfl) ?_
              refine lv_iload_n hx hb dX3_makeStep_173 rfl (lv_at hl 3 rfl) ?_
              refine x_top (y := -5) (by rw [h_3]; rfl) ?_
              refine x_iast hx hb K hP hD hS 1 0 rfl rfl (84 + (9 * q)) rfl (by omega) (by decide) dX3_makeStep_174 (fun H locs hP hD hS => ?_)
              have hP : va_P D vwCl [(h0, .inr (3, [.ref hr, .ref hp, .ref ha, .ref hf, .int (nI hs), .int (bI ias), .ref ht, .int (nI ln), .int (nI pa), .ref hd])), (hr, .inl (dA 0, 444, .inl (upd (upd (upd row 5 ((row 5) + (nI 1))) 4 (nI pl)) (84 + (9 * q)) (-5)))), (hp, .inl (dA 0, 1776, .inl past)), (ha, .inl (dA 0, 444, .inl aside)), (hf, .inl (dA 0, 444, .inl bef)), (ht, .inl (dA 3, 60, .inl txt)), (hd, .inl (dA 0, 8, .inl rd))] H := hP
              have hD : va_D A [(h0, .inr (3, [.ref hr, .ref hp, .ref ha, .ref hf, .int (nI hs), .int (bI ias), .ref ht, .int (nI ln), .int (nI pa), .ref hd])), (hr, .inl (dA 0, 444, .inl (upd (upd (upd row 5 ((row 5) + (nI 1))) 4 (nI pl)) (84 + (9 * q)) (-5)))), (hp, .inl (dA 0, 1776, .inl past)), (ha, .inl (dA 0, 444, .inl aside)), (hf, .inl (dA 0, 444, .inl bef)), (ht, .inl (dA 3, 60, .inl txt)), (hd, .inl (dA 0, 8, .inl rd))] := hD
              refine lv_iconst (v := nI 0) hx hb dX3_makeStep_175 (by decide) ?_
              refine lv_istore (lv' := [(6, .int (nI 0)), (5, .int (nI (84 + (9 * q)))), (4, .int (nI 0)), (3, .int ((mPrices row n pl) + (mRoutes row n cu pl))), (2, .int (oI (mMissed row n cu pl))), (1, .int (oI (mMaster row n cu q))), (0, .ref h0)]) hx hb dX3_makeStep_176 hl (by decide) rfl (fun ls hl => ?_)
              rw [cutR_0 (upd (upd row 5 ((row 5) + (nI 1))) 4 (nI pl)) q (-5) (msVal row n cu pl)] at hP hD
              have hl : lv_has ls 7 [(0, .ref h0), (1, .int (oI (mMaster row n cu q))), (2, .int (oI (mMissed row n cu pl))), (5, .int (nI (84 + (9 * q)))), (6, .int (nI 0))] := lv_sub hl [6, 5, 4, 1, 0] rfl
              rw [h_2, h_3] at hl
              have hl : lv_has ls 7 [(0, .ref h0), (1, .int (nI pl)), (2, .int (-5)), (5, .int (nI (84 + (9 * q)))), (6, .int (nI 0))] := hl
              refine lpW (fun _ a => a) () cu (fun k g ls H locs => lv_has ls 7 [(0, .ref h0), (1, .int (nI pl)), (2, .int (-5)), (5, .int (nI (84 + (9 * q)))), (6, .int (nI k))] ∧ va_P D vwCl [(h0, .inr (3, [.ref hr, .ref hp, .ref ha, .ref hf, .int (nI hs), .int (bI ias), .ref ht, .int (nI ln), .int (nI pa), .ref hd])), (hr, .inl (dA 0, 444, .inl (cutR (upd (upd row 5 ((row 5) + (nI 1))) 4 (nI pl)) q (-5) (msVal row n cu pl) k))), (hp, .inl (dA 0, 1776, .inl past)), (ha, .inl (dA 0, 444, .inl aside)), (hf, .inl (dA 0, 444, .inl bef)), (ht, .inl (dA 3, 60, .inl txt)), (hd, .inl (dA 0, 8, .inl rd))] H ∧ va_D A [(h0, .inr (3, [.ref hr, .ref hp, .ref ha, .ref hf, .int (nI hs), .int (bI ias), .ref ht, .int (nI ln), .int (nI pa), .ref hd])), (hr, .inl (dA 0, 444, .inl (cutR (upd (upd row 5 ((row 5) + (nI 1))) 4 (nI pl)) q (-5) (msVal row n cu pl) k))), (hp, .inl (dA 0, 1776, .inl past)), (ha, .inl (dA 0, 444, .inl aside)), (hf, .inl (dA 0, 444, .inl bef)), (ht, .inl (dA 3, 60, .inl txt)), (hd, .inl (dA 0, 8, .inl rd))] ∧ va_S A s.heap H locs) (fun ls H locs => W p l e (rmW 5 200 0 0) s m ([.ref h0]).toArray below meth c H locs 0 0 (MQ below (QW (some (.int (msRes row n cu q))) D (mW dA h0 hr hp ha hf ht hd (msRow row n cu q bst) past aside bef txt rd hs ias ln pa) A) ([.ref h0]).toArray s 0 0 A) (F0 m 178 ls [])) ?_ ?_ ls H locs ⟨lv_sub hl [0, 1, 2, 3, 4] rfl, hP, hD, hS⟩
              · intro k ls H locs hk_21 hI ih
                obtain ⟨sv, hsk⟩ := hsv0 k hk_21
                have hsl := mServer_lt hsk
                have hag2 : Agr (cutR (upd (upd row 5 ((row 5) + (nI 1))) 4 (nI pl)) q (-5) (msVal row n cu pl) k) row := agr_trans (agr_cutR _ _ _ _ _) (agr_trans (agr_upd _ _ (Or.inr (Or.inl rfl))) (agr_upd _ _ (Or.inr (Or.inr (Or.inl rfl)))))
                obtain ⟨hl, hP, hD, hS⟩ := hI
                have hl : lv_has ls 7 [(0, .ref h0), (1, .int (nI pl)), (2, .int (-5)), (5, .int (nI (84 + (9 * q)))), (6, .int (nI k))] := hl
                have hP : va_P D vwCl [(h0, .inr (3, [.ref hr, .ref hp, .ref ha, .ref hf, .int (nI hs), .int (bI ias), .ref ht, .int (nI ln), .int (nI pa), .ref hd])), (hr, .inl (dA 0, 444, .inl (cutR (upd (upd row 5 ((row 5) + (nI 1))) 4 (nI pl)) q (-5) (msVal row n cu pl) k))), (hp, .inl (dA 0, 1776, .inl past)), (ha, .inl (dA 0, 444, .inl aside)), (hf, .inl (dA 0, 444, .inl bef)), (ht, .inl (dA 3, 60, .inl txt)), (hd, .inl (dA 0, 8, .inl rd))] H := hP
                have hD : va_D A [(h0, .inr (3, [.ref hr, .ref hp, .ref ha, .ref hf, .int (nI hs), .int (bI ias), .ref ht, .int (nI ln), .int (nI pa), .ref hd])), (hr, .inl (dA 0, 444, .inl (cutR (upd (upd row 5 ((row 5) + (nI 1))) 4 (nI pl)) q (-5) (msVal row n cu pl) k))), (hp, .inl (dA 0, 1776, .inl past)), (ha, .inl (dA 0, 444, .inl aside)), (hf, .inl (dA 0, 444, .inl bef)), (ht, .inl (dA 3, 60, .inl txt)), (hd, .inl (dA 0, 8, .inl rd))] := hD
                show W p l e (rmW 5 200 0 0) s m ([.ref h0]).toArray below meth c H locs 0 0 (MQ below (QW (some (.int (msRes row n cu q))) D (mW dA h0 hr hp ha hf ht hd (msRow row n cu q bst) past aside bef txt rd hs ias ln pa) A) ([.ref h0]).toArray s 0 0 A) (F0 m 178 ls [])
                refine lv_iload hx hb dX3_makeStep_178 (lv_at hl 4 rfl) ?_
                refine lv_aload_n hx hb dX3_makeStep_180 rfl (lv_at hl 0 rfl) ?_
                refine va_get (D := D) (ci := 3) (C := RX3) (T := TX3) (N := 10) hx hb hts in_X3 hown K hP 0 rfl rfl 0 (by decide) (hts _ q1075) (fun _ h9 => h9) rfl dX3_makeStep_181 ?_
                refine lv_iconst (v := nI 1) hx hb dX3_makeStep_184 (by decide) ?_
                refine x_iald (v := nI cu) hx hb K hP 1 0 rfl rfl 1 rfl (by omega) (by decide) (by rw [cutR_lo (by omega)]; first | (rw [pk_un (by omega), pk_un (by omega)]; exact e1) | (rw [pk_un (by omega)]; exact e1)) dX3_makeStep_185 ?_
                refine lv_icmp_ge (tgt := 232) hx hb dX3_makeStep_186 (by decide) (fun h => absurd h (nI_ge hk_21 (by omega))) (fun _ => ?_)
                refine lv_aload_n hx hb dX3_makeStep_189 rfl (lv_at hl 0 rfl) ?_
                refine va_get (D := D) (ci := 3) (C := RX3) (T := TX3) (N := 10) hx hb hts in_X3 hown K hP 0 rfl rfl 0 (by decide) (hts _ q1075) (fun _ h9 => h9) rfl dX3_makeStep_190 ?_
                refine lv_iload hx hb dX3_makeStep_193 (lv_at hl 3 rfl) ?_
                refine lv_iconst (v := nI 1) hx hb dX3_makeStep_195 (by decide) ?_
                refine x_addN hx hb dX3_makeStep_196 ?_
                refine lv_iload hx hb dX3_makeStep_197 (lv_at hl 4 rfl) ?_
                refine x_addN hx hb dX3_makeStep_199 ?_
                refine lv_iload_n hx hb dX3_makeStep_200 rfl (lv_at hl 2 rfl) ?_
                refine lv_if_ge (tgt := 224) hx hb dX3_makeStep_201 (by decide) (fun h => absurd h (by decide)) (fun _ => ?_)
                refine lv_aload_n hx hb dX3_makeStep_204 rfl (lv_at hl 0 rfl) ?_
                refine va_get (D := D) (ci := 3) (C := RX3) (T := TX3) (N := 10) hx hb hts in_X3 hown K hP 0 rfl rfl 0 (by decide) (hts _ q1075) (fun _ h9 => h9) rfl dX3_makeStep_205 ?_
                refine lv_aload_n hx hb dX3_makeStep_208 rfl (lv_at hl 0 rfl) ?_
                refine lv_iload_n hx hb dX3_makeStep_209 rfl (lv_at hl 1 rfl) ?_
                refine lv_iload hx hb dX3_makeStep_210 (lv_at hl 4 rfl) ?_
                refine x_ret (va_runV (As := [.int (nI pl), .int (nI k)]) (rest := [.ref hr, .int (nI (((84 + (9 * q)) + 1) + k)), .ref hr]) S (mr_server l D dA h0 hr [.ref hp, .ref ha, .ref hf, .int (nI hs), .int (bI ias), .ref ht, .int (nI ln), .int (nI pa), .ref hd] (cutR (upd (upd row 5 ((row 5) + (nI 1))) 4 (nI pl)) q (-5) (msVal row n cu pl) k) (mwf_cg w (by rw [cutR_lo (by omega)]; simp [upd]) (by rw [cutR_lo (by omega)]; simp [upd]) (by rw [cutR_lo (by omega)]; simp [upd]) (fun k hk => by rw [cutR_lo (by omega)]; first | (rw [pk_un (by omega), pk_un (by omega)]) | (rw [pk_un (by omega)]))) pl k (by omega) (by omega)) (cwV 2 hts (lw_V q1247 q1249 qs45 q69 q1250) rfl rfl rfl hdX3_server ⟨Nat.le_of_ble_eq_true rfl, Nat.le_of_ble_eq_true rfl⟩) ⟨bb_blind ka_bl _, va_recv K hP (ci := 3) (q0 := 0) rfl rfl, ka_pre K (hP.sub [0, 1] rfl) _⟩ rfl rfl hl.1 rfl (lv_room (Nat.le_of_ble_eq_true rfl)) dX3_makeStep_212 ⟨by omega, by omega⟩) ?_
                refine x_top (y := nI sv) (by rw [agr_server hag2 hn (by omega), hsk]; rfl) ?_
                refine lv_iload hx hb dX3_makeStep_215 (lv_at hl 4 rfl) ?_
                refine x_ret (va_runS (As := [.int (nI sv), .int (nI k)]) (rest := [.ref hr, .int (nI (((84 + (9 * q)) + 1) + k)), .ref hr]) S (mr_route l sv k) (va_cwS 2 hts (lw_S q1170 q1171 q69 q1172) rfl rfl rfl hdX3_route ⟨Nat.le_of_ble_eq_true rfl, Nat.le_of_ble_eq_true rfl⟩) ⟨bb_blind tt_bl _, tt_pre _⟩ rfl rfl hl.1 rfl (lv_room (Nat.le_of_ble_eq_true rfl)) dX3_makeStep_217 ⟨by omega, by omega⟩) ?_
                refine x_iald (v := row (21 + 8 * sv + k)) hx hb K hP 1 0 rfl rfl (21 + 8 * sv + k) rfl (by omega) (by decide) (by rw [cutR_lo (by omega)]; first | rw [pk_un (by omega), pk_un (by omega)] | rw [pk_un (by omega)]) dX3_makeStep_220 ?_
                refine lv_goto (tgt := 225) hx hb dX3_makeStep_221 (by decide) ?_
                refine x_iast hx hb K hP hD hS 1 0 rfl rfl (((84 + (9 * q)) + 1) + k) rfl (by omega) (by decide) dX3_makeStep_225 (fun H locs hP hD hS => ?_)
                have hP : va_P D vwCl [(h0, .inr (3, [.ref hr, .ref hp, .ref ha, .ref hf, .int (nI hs), .int (bI ias), .ref ht, .int (nI ln), .int (nI pa), .ref hd])), (hr, .inl (dA 0, 444, .inl (upd (cutR (upd (upd row 5 ((row 5) + (nI 1))) 4 (nI pl)) q (-5) (msVal row n cu pl) k) (((84 + (9 * q)) + 1) + k) (row (21 + 8 * sv + k))))), (hp, .inl (dA 0, 1776, .inl past)), (ha, .inl (dA 0, 444, .inl aside)), (hf, .inl (dA 0, 444, .inl bef)), (ht, .inl (dA 3, 60, .inl txt)), (hd, .inl (dA 0, 8, .inl rd))] H := hP
                have hD : va_D A [(h0, .inr (3, [.ref hr, .ref hp, .ref ha, .ref hf, .int (nI hs), .int (bI ias), .ref ht, .int (nI ln), .int (nI pa), .ref hd])), (hr, .inl (dA 0, 444, .inl (upd (cutR (upd (upd row 5 ((row 5) + (nI 1))) 4 (nI pl)) q (-5) (msVal row n cu pl) k) (((84 + (9 * q)) + 1) + k) (row (21 + 8 * sv + k))))), (hp, .inl (dA 0, 1776, .inl past)), (ha, .inl (dA 0, 444, .inl aside)), (hf, .inl (dA 0, 444, .inl bef)), (ht, .inl (dA 3, 60, .inl txt)), (hd, .inl (dA 0, 8, .inl rd))] := hD
                refine lv_iinc (v := nI (k + 1)) (lv' := [(6, .int (nI (k + 1))), (0, .ref h0), (1, .int (nI pl)), (2, .int (-5)), (5, .int (nI (84 + (9 * q))))]) hx hb dX3_makeStep_226 hl (k := 4) rfl (nI_1 k) (by decide) rfl (fun ls hl => ?_)
                refine lv_goto (tgt := 178) hx hb dX3_makeStep_229 (by decide) ?_
                have hcs := cutR_s (upd (upd row 5 ((row 5) + (nI 1))) 4 (nI pl)) q (-5) (msVal row n cu pl) k
                rw [show (msVal row n cu pl k) = (row (21 + 8 * sv + k)) from (by simp [msVal, h_3, hsk])] at hcs
                rw [hcs] at hP hD
                refine ih ls H locs ⟨?_, hP, hD, hS⟩
                show lv_has ls 7 [(0, .ref h0), (1, .int (nI pl)), (2, .int (-5)), (5, .int (nI (84 + (9 * q)))), (6, .int (nI (k + 1)))]
                exact lv_sub hl [1, 2, 3, 4, 0] rfl
              · intro ls H locs hI
                obtain ⟨hl, hP, hD, hS⟩ := hI
                have hl : lv_has ls 7 [(0, .ref h0), (1, .int (nI pl)), (2, .int (-5)), (5, .int (nI (84 + (9 * q)))), (6, .int (nI cu))] := hl
                have hP : va_P D vwCl [(h0, .inr (3, [.ref hr, .ref hp, .ref ha, .ref hf, .int (nI hs), .int (bI ias), .ref ht, .int (nI ln), .int (nI pa), .ref hd])), (hr, .inl (dA 0, 444, .inl (cutR (upd (upd row 5 ((row 5) + (nI 1))) 4 (nI pl)) q (-5) (msVal row n cu pl) cu))), (hp, .inl (dA 0, 1776, .inl past)), (ha, .inl (dA 0, 444, .inl aside)), (hf, .inl (dA 0, 444, .inl bef)), (ht, .inl (dA 3, 60, .inl txt)), (hd, .inl (dA 0, 8, .inl rd))] H := hP
                have hD : va_D A [(h0, .inr (3, [.ref hr, .ref hp, .ref ha, .ref hf, .int (nI hs), .int (bI ias), .ref ht, .int (nI ln), .int (nI pa), .ref hd])), (hr, .inl (dA 0, 444, .inl (cutR (upd (upd row 5 ((row 5) + (nI 1))) 4 (nI pl)) q (-5) (msVal row n cu pl) cu))), (hp, .inl (dA 0, 1776, .inl past)), (ha, .inl (dA 0, 444, .inl aside)), (hf, .inl (dA 0, 444, .inl bef)), (ht, .inl (dA 3, 60, .inl txt)), (hd, .inl (dA 0, 8, .inl rd))] := hD
                show W p l e (rmW 5 200 0 0) s m ([.ref h0]).toArray below meth c H locs 0 0 (MQ below (QW (some (.int (msRes row n cu q))) D (mW dA h0 hr hp ha hf ht hd (msRow row n cu q bst) past aside bef txt rd hs ias ln pa) A) ([.ref h0]).toArray s 0 0 A) (F0 m 178 ls [])
                refine lv_iload hx hb dX3_makeStep_178 (lv_at hl 4 rfl) ?_
                refine lv_aload_n hx hb dX3_makeStep_180 rfl (lv_at hl 0 rfl) ?_
                refine va_get (D := D) (ci := 3) (C := RX3) (T := TX3) (N := 10) hx hb hts in_X3 hown K hP 0 rfl rfl 0 (by decide) (hts _ q1075) (fun _ h9 => h9) rfl dX3_makeStep_181 ?_
                refine lv_iconst (v := nI 1) hx hb dX3_makeStep_184 (by decide) ?_
                refine x_iald (v := nI cu) hx hb K hP 1 0 rfl rfl 1 rfl (by omega) (by decide) (by rw [cutR_lo (by omega)]; first | (rw [pk_un (by omega), pk_un (by omega)]; exact e1) | (rw [pk_un (by omega)]; exact e1)) dX3_makeStep_185 ?_
                refine lv_icmp_ge (tgt := 232) hx hb dX3_makeStep_186 (by decide) (fun _ => ?_) (fun h => absurd (nI_le (by omega) (by omega)) h)
                refine lv_aload_n hx hb dX3_makeStep_232 rfl (lv_at hl 0 rfl) ?_
                refine va_get (D := D) (ci := 3) (C := RX3) (T := TX3) (N := 10) hx hb hts in_X3 hown K hP 0 rfl rfl 0 (by decide) (hts _ q1075) (fun _ h9 => h9) rfl dX3_makeStep_233 ?_
                refine lv_iconst (v := nI 3) hx hb dX3_makeStep_236 (by decide) ?_
                refine lv_dup2_11 hx hb dX3_makeStep_237 rfl rfl ?_
                refine x_iald (v := nI q) hx hb K hP 1 0 rfl rfl 3 rfl (by omega) (by decide) (by rw [cutR_lo (by omega)]; first | (rw [pk_un (by omega), pk_un (by omega)]; exact e3) | (rw [pk_un (by omega)]; exact e3)) dX3_makeStep_238 ?_
                refine lv_iconst (v := nI 1) hx hb dX3_makeStep_239 (by decide) ?_
                refine x_addN hx hb dX3_makeStep_240 ?_
                refine x_iast hx hb K hP hD hS 1 0 rfl rfl 3 rfl (by omega) (by decide) dX3_makeStep_241 (fun H locs hP hD hS => ?_)
                have hP : va_P D vwCl [(h0, .inr (3, [.ref hr, .ref hp, .ref ha, .ref hf, .int (nI hs), .int (bI ias), .ref ht, .int (nI ln), .int (nI pa), .ref hd])), (hr, .inl (dA 0, 444, .inl (upd (cutR (upd (upd row 5 ((row 5) + (nI 1))) 4 (nI pl)) q (-5) (msVal row n cu pl) cu) 3 (nI (q + 1))))), (hp, .inl (dA 0, 1776, .inl past)), (ha, .inl (dA 0, 444, .inl aside)), (hf, .inl (dA 0, 444, .inl bef)), (ht, .inl (dA 3, 60, .inl txt)), (hd, .inl (dA 0, 8, .inl rd))] H := hP
                have hD : va_D A [(h0, .inr (3, [.ref hr, .ref hp, .ref ha, .ref hf, .int (nI hs), .int (bI ias), .ref ht, .int (nI ln), .int (nI pa), .ref hd])), (hr, .inl (dA 0, 444, .inl (upd (cutR (upd (upd row 5 ((row 5) + (nI 1))) 4 (nI pl)) q (-5) (msVal row n cu pl) cu) 3 (nI (q + 1))))), (hp, .inl (dA 0, 1776, .inl past)), (ha, .inl (dA 0, 444, .inl aside)), (hf, .inl (dA 0, 444, .inl bef)), (ht, .inl (dA 3, 60, .inl txt)), (hd, .inl (dA 0, 8, .inl rd))] := hD
                refine lv_iload_n hx hb dX3_makeStep_242 rfl (lv_at hl 2 rfl) ?_
                refine lv_if_ge (tgt := 250) hx hb dX3_makeStep_243 (by decide) (fun h => absurd h (by decide)) (fun _ => ?_)
                refine lv_iconst (v := nI 1) hx hb dX3_makeStep_246 (by decide) ?_
                refine lv_goto (tgt := 251) hx hb dX3_makeStep_247 (by decide) ?_
                rw [show msRow row n cu q bst = upd (cutR (upd (upd row 5 ((row 5) + (nI 1))) 4 (nI pl)) q (-5) (msVal row n cu pl) cu) 3 (nI (q + 1)) from (by simp [msRow, msRes, msPlan, msSolved, msBest, msRow2, mCost, oI_n, oI_s, h_1, h_2, h_3, h_15, h_17, h_19])]
                exact x_viret hx hb hrt hlk (by simp [msRow, msRes, msPlan, msSolved, msBest, msRow2, mCost, oI_n, oI_s, h_1, h_2, h_3, h_15, h_17, h_19]) hP hD hS dX3_makeStep_251 (Nat.le_of_ble_eq_true rfl) (Nat.le_of_ble_eq_true rfl)
            · obtain ⟨hb2, hms⟩ := hbst _ h_19
              refine lv_iload_n hx hb dX3_makeStep_114 rfl (lv_at hl 1 rfl) ?_
              refine lv_aload_n hx hb dX3_makeStep_115 rfl (lv_at hl 4 rfl) ?_
              refine lv_aload_n hx hb dX3_makeStep_116 rfl (lv_at hl 4 rfl) ?_
              refine va_get (D := D) (ci := 3) (C := RX3) (T := TX3) (N := 10) hx hb hts in_X3 hown K hP 0 rfl rfl 0 (by decide) (hts _ q1075) (fun _ h9 => h9) rfl dX3_makeStep_117 ?_
              refine lv_iconst (v := nI 4) hx hb dX3_makeStep_120 (by decide) ?_
              refine x_iald (v := oI bst) hx hb K hP 1 0 rfl rfl 4 rfl (by omega) (by decide) (by rw [pk_un (by omega)]; exact e4) dX3_makeStep_121 ?_
              refine x_top (y := nI bb) (by rw [h_19]; rfl) ?_
              refine x_ret (va_runV (As := [.int (nI bb)]) (rest := [.int ((mPrices row n pl) + (mRoutes row n cu pl))]) S (mr_prices l D dA h0 hr [.ref hp, .ref ha, .ref hf, .int (nI hs), .int (bI ias), .ref ht, .int (nI ln), .int (nI pa), .ref hd] (upd row 5 ((row 5) + (nI 1))) (mwf_cg w (by simp [upd]) (by simp [upd]) (by simp [upd]) (fun k hk => by first | (rw [pk_un (by omega), pk_un (by omega)]) | (rw [pk_un (by omega)]))) bb (by omega)) (cwV 1 hts (lw_V q1235 q1237 qs42 q69 q1238) rfl rfl rfl hdX3_prices ⟨Nat.le_of_ble_eq_true rfl, Nat.le_of_ble_eq_true rfl⟩) ⟨bb_blind ka_bl _, va_recv K hP (ci := 3) (q0 := 0) rfl rfl, ka_pre K (hP.sub [0, 1] rfl) _⟩ rfl rfl hl.1 rfl (lv_room (Nat.le_of_ble_eq_true rfl)) dX3_makeStep_122 ⟨by omega, by omega⟩) ?_
              refine x_top (y := mPrices row n bb) (agr_prices hag hn) ?_
              refine lv_aload_n hx hb dX3_makeStep_125 rfl (lv_at hl 4 rfl) ?_
              refine lv_aload_n hx hb dX3_makeStep_126 rfl (lv_at hl 4 rfl) ?_
              refine va_get (D := D) (ci := 3) (C := RX3) (T := TX3) (N := 10) hx hb hts in_X3 hown K hP 0 rfl rfl 0 (by decide) (hts _ q1075) (fun _ h9 => h9) rfl dX3_makeStep_127 ?_
              refine lv_iconst (v := nI 4) hx hb dX3_makeStep_130 (by decide) ?_
              refine x_iald (v := oI bst) hx hb K hP 1 0 rfl rfl 4 rfl (by omega) (by decide) (by rw [pk_un (by omega)]; exact e4) dX3_makeStep_131 ?_
              refine x_top (y := nI bb) (by rw [h_19]; rfl) ?_
              refine x_ret (va_runV (As := [.int (nI bb)]) (rest := [.int (mPrices row n bb), .int ((mPrices row n pl) + (mRoutes row n cu pl))]) S (mr_routes l D dA h0 hr [.ref hp, .ref ha, .ref hf, .int (nI hs), .int (bI ias), .ref ht, .int (nI ln), .int (nI pa), .ref hd] (upd row 5 ((row 5) + (nI 1))) (mwf_cg w (by simp [upd]) (by simp [upd]) (by simp [upd]) (fun k hk => by first | (rw [pk_un (by omega), pk_un (by omega)]) | (rw [pk_un (by omega)]))) bb (by omega) (fun c hc => by rw [agr_server hag hn (by omega)]; exact miss_none hms c hc)) (cwV 1 hts (lw_V q1243 q1245 qs44 q69 q1246) rfl rfl rfl hdX3_routes ⟨Nat.le_of_ble_eq_true rfl, Nat.le_of_ble_eq_true rfl⟩) ⟨bb_blind ka_bl _, va_recv K hP (ci := 3) (q0 := 0) rfl rfl, ka_pre K (hP.sub [0, 1] rfl) _⟩ rfl rfl hl.1 rfl (lv_room (Nat.le_of_ble_eq_true rfl)) dX3_makeStep_132 ⟨by omega, by omega⟩) ?_
              refine x_top (y := mRoutes row n cu bb) (agr_routes hag hn hcu) ?_
              refine lv_iadd hx hb dX3_makeStep_135 ?_
              refine lv_icmp_ge (tgt := 146) hx hb dX3_makeStep_136 (by decide) (fun h_26 => ?_) (fun h_26 => ?_)
              · refine lv_iload hx hb dX3_makeStep_146 (lv_at hl 0 rfl) ?_
                refine lv_if_eq (tgt := 153) hx hb dX3_makeStep_148 (by decide) (fun _ => ?_) (fun h => absurd (by decide) h)
                refine lv_bipush (v := nI 84) hx hb dX3_makeStep_153 (by decide) ?_
                refine lv_bipush (v := nI 9) hx hb dX3_makeStep_155 (by decide) ?_
                refine lv_aload_n hx hb dX3_makeStep_157 rfl (lv_at hl 4 rfl) ?_
                refine va_get (D := D) (ci := 3) (C := RX3) (T := TX3) (N := 10) hx hb hts in_X3 hown K hP 0 rfl rfl 0 (by decide) (hts _ q1075) (fun _ h9 => h9) rfl dX3_makeStep_158 ?_
                refine lv_iconst (v := nI 3) hx hb dX3_makeStep_161 (by decide) ?_
                refine x_iald (v := nI q) hx hb K hP 1 0 rfl rfl 3 rfl (by omega) (by decide) (by first | (rw [pk_un (by omega), pk_un (by omega)]; exact e3) | (rw [pk_un (by omega)]; exact e3)) dX3_makeStep_162 ?_
                refine x_mulN hx hb dX3_makeStep_163 ?_
                refine x_addN hx hb dX3_makeStep_164 ?_
                refine lv_istore (lv' := [(5, .int (nI (84 + (9 * q)))), (4, .int (nI 0)), (3, .int ((mPrices row n pl) + (mRoutes row n cu pl))), (2, .int (oI (mMissed row n cu pl))), (1, .int (oI (mMaster row n cu q))), (0, .ref h0)]) hx hb dX3_makeStep_165 hl (by decide) rfl (fun ls hl => ?_)
                refine lv_aload_n hx hb dX3_makeStep_167 rfl (lv_at hl 5 rfl) ?_
                refine va_get (D := D) (ci := 3) (C := RX3) (T := TX3) (N := 10) hx hb hts in_X3 hown K hP 0 rfl rfl 0 (by decide) (hts _ q1075) (fun _ h9 => h9) rfl dX3_makeStep_168 ?_
                refine lv_iload hx hb dX3_makeStep_171 (lv_at hl 0 rfl) ?_
                refine lv_iload_n hx hb dX3_makeStep_173 rfl (lv_at hl 3 rfl) ?_
                refine x_top (y := -5) (by rw [h_3]; rfl) ?_
                refine x_iast hx hb K hP hD hS 1 0 rfl rfl (84 + (9 * q)) rfl (by omega) (by decide) dX3_makeStep_174 (fun H locs hP hD hS => ?_)
                have hP : va_P D vwCl [(h0, .inr (3, [.ref hr, .ref hp, .ref ha, .ref hf, .int (nI hs), .int (bI ias), .ref ht, .int (nI ln), .int (nI pa), .ref hd])), (hr, .inl (dA 0, 444, .inl (upd (upd row 5 ((row 5) + (nI 1))) (84 + (9 * q)) (-5)))), (hp, .inl (dA 0, 1776, .inl past)), (ha, .inl (dA 0, 444, .inl aside)), (hf, .inl (dA 0, 444, .inl bef)), (ht, .inl (dA 3, 60, .inl txt)), (hd, .inl (dA 0, 8, .inl rd))] H := hP
                have hD : va_D A [(h0, .inr (3, [.ref hr, .ref hp, .ref ha, .ref hf, .int (nI hs), .int (bI ias), .ref ht, .int (nI ln), .int (nI pa), .ref hd])), (hr, .inl (dA 0, 444, .inl (upd (upd row 5 ((row 5) + (nI 1))) (84 + (9 * q)) (-5)))), (hp, .inl (dA 0, 1776, .inl past)), (ha, .inl (dA 0, 444, .inl aside)), (hf, .inl (dA 0, 444, .inl bef)), (ht, .inl (dA 3, 60, .inl txt)), (hd, .inl (dA 0, 8, .inl rd))] := hD
                refine lv_iconst (v := nI 0) hx hb dX3_makeStep_175 (by decide) ?_
                refine lv_istore (lv' := [(6, .int (nI 0)), (5, .int (nI (84 + (9 * q)))), (4, .int (nI 0)), (3, .int ((mPrices row n pl) + (mRoutes row n cu pl))), (2, .int (oI (mMissed row n cu pl))), (1, .int (oI (mMaster row n cu q))), (0, .ref h0)]) hx hb dX3_makeStep_176 hl (by decide) rfl (fun ls hl => ?_)
                rw [cutR_0 (upd row 5 ((row 5) + (nI 1))) q (-5) (msVal row n cu pl)] at hP hD
                have hl : lv_has ls 7 [(0, .ref h0), (1, .int (oI (mMaster row n cu q))), (2, .int (oI (mMissed row n cu pl))), (5, .int (nI (84 + (9 * q)))), (6, .int (nI 0))] := lv_sub hl [6, 5, 4, 1, 0] rfl
                rw [h_2, h_3] at hl
                have hl : lv_has ls 7 [(0, .ref h0), (1, .int (nI pl)), (2, .int (-5)), (5, .int (nI (84 + (9 * q)))), (6, .int (nI 0))] := hl
                refine lpW (fun _ a => a) () cu (fun k g ls H locs => lv_has ls 7 [(0, .ref h0), (1, .int (nI pl)), (2, .int (-5)), (5, .int (nI (84 + (9 * q)))), (6, .int (nI k))] ∧ va_P D vwCl [(h0, .inr (3, [.ref hr, .ref hp, .ref ha, .ref hf, .int (nI hs), .int (bI ias), .ref ht, .int (nI ln), .int (nI pa), .ref hd])), (hr, .inl (dA 0, 444, .inl (cutR (upd row 5 ((row 5) + (nI 1))) q (-5) (msVal row n cu pl) k))), (hp, .inl (dA 0, 1776, .inl past)), (ha, .inl (dA 0, 444, .inl aside)), (hf, .inl (dA 0, 444, .inl bef)), (ht, .inl (dA 3, 60, .inl txt)), (hd, .inl (dA 0, 8, .inl rd))] H ∧ va_D A [(h0, .inr (3, [.ref hr, .ref hp, .ref ha, .ref hf, .int (nI hs), .int (bI ias), .ref ht, .int (nI ln), .int (nI pa), .ref hd])), (hr, .inl (dA 0, 444, .inl (cutR (upd row 5 ((row 5) + (nI 1))) q (-5) (msVal row n cu pl) k))), (hp, .inl (dA 0, 1776, .inl past)), (ha, .inl (dA 0, 444, .inl aside)), (hf, .inl (dA 0, 444, .inl bef)), (ht, .inl (dA 3, 60, .inl txt)), (hd, .inl (dA 0, 8, .inl rd))] ∧ va_S A s.heap H locs) (fun ls H locs => W p l e (rmW 5 200 0 0) s m ([.ref h0]).toArray below meth c H locs 0 0 (MQ below (QW (some (.int (msRes row n cu q))) D (mW dA h0 hr hp ha hf ht hd (msRow row n cu q bst) past aside bef txt rd hs ias ln pa) A) ([.ref h0]).toArray s 0 0 A) (F0 m 178 ls [])) ?_ ?_ ls H locs ⟨lv_sub hl [0, 1, 2, 3, 4] rfl, hP, hD, hS⟩
                · intro k ls H locs hk_28 hI ih
                  obtain ⟨sv, hsk⟩ := hsv0 k hk_28
                  have hsl := mServer_lt hsk
                  have hag2 : Agr (cutR (upd row 5 ((row 5) + (nI 1))) q (-5) (msVal row n cu pl) k) row := agr_trans (agr_cutR _ _ _ _ _) (agr_upd _ _ (Or.inr (Or.inr (Or.inl rfl))))
                  obtain ⟨hl, hP, hD, hS⟩ := hI
                  have hl : lv_has ls 7 [(0, .ref h0), (1, .int (nI pl)), (2, .int (-5)), (5, .int (nI (84 + (9 * q)))), (6, .int (nI k))] := hl
                  have hP : va_P D vwCl [(h0, .inr (3, [.ref hr, .ref hp, .ref ha, .ref hf, .int (nI hs), .int (bI ias), .ref ht, .int (nI ln), .int (nI pa), .ref hd])), (hr, .inl (dA 0, 444, .inl (cutR (upd row 5 ((row 5) + (nI 1))) q (-5) (msVal row n cu pl) k))), (hp, .inl (dA 0, 1776, .inl past)), (ha, .inl (dA 0, 444, .inl aside)), (hf, .inl (dA 0, 444, .inl bef)), (ht, .inl (dA 3, 60, .inl txt)), (hd, .inl (dA 0, 8, .inl rd))] H := hP
                  have hD : va_D A [(h0, .inr (3, [.ref hr, .ref hp, .ref ha, .ref hf, .int (nI hs), .int (bI ias), .ref ht, .int (nI ln), .int (nI pa), .ref hd])), (hr, .inl (dA 0, 444, .inl (cutR (upd row 5 ((row 5) + (nI 1))) q (-5) (msVal row n cu pl) k))), (hp, .inl (dA 0, 1776, .inl past)), (ha, .inl (dA 0, 444, .inl aside)), (hf, .inl (dA 0, 444, .inl bef)), (ht, .inl (dA 3, 60, .inl txt)), (hd, .inl (dA 0, 8, .inl rd))] := hD
                  show W p l e (rmW 5 200 0 0) s m ([.ref h0]).toArray below meth c H locs 0 0 (MQ below (QW (some (.int (msRes row n cu q))) D (mW dA h0 hr hp ha hf ht hd (msRow row n cu q bst) past aside bef txt rd hs ias ln pa) A) ([.ref h0]).toArray s 0 0 A) (F0 m 178 ls [])
                  refine lv_iload hx hb dX3_makeStep_178 (lv_at hl 4 rfl) ?_
                  refine lv_aload_n hx hb dX3_makeStep_180 rfl (lv_at hl 0 rfl) ?_
                  refine va_get (D := D) (ci := 3) (C := RX3) (T := TX3) (N := 10) hx hb hts in_X3 hown K hP 0 rfl rfl 0 (by decide) (hts _ q1075) (fun _ h9 => h9) rfl dX3_makeStep_181 ?_
                  refine lv_iconst (v := nI 1) hx hb dX3_makeStep_184 (by decide) ?_
                  refine x_iald (v := nI cu) hx hb K hP 1 0 rfl rfl 1 rfl (by omega) (by decide) (by rw [cutR_lo (by omega)]; first | (rw [pk_un (by omega), pk_un (by omega)]; exact e1) | (rw [pk_un (by omega)]; exact e1)) dX3_makeStep_185 ?_
                  refine lv_icmp_ge (tgt := 232) hx hb dX3_makeStep_186 (by decide) (fun h => absurd h (nI_ge hk_28 (by omega))) (fun _ => ?_)
                  refine lv_aload_n hx hb dX3_makeStep_189 rfl (lv_at hl 0 rfl) ?_
                  refine va_get (D := D) (ci := 3) (C := RX3) (T := TX3) (N := 10) hx hb hts in_X3 hown K hP 0 rfl rfl 0 (by decide) (hts _ q1075) (fun _ h9 => h9) rfl dX3_makeStep_190 ?_
                  refine lv_iload hx hb dX3_makeStep_193 (lv_at hl 3 rfl) ?_
                  refine lv_iconst (v := nI 1) hx hb dX3_makeStep_195 (by decide) ?_
                  refine x_addN hx hb dX3_makeStep_196 ?_
                  refine lv_iload hx hb dX3_makeStep_197 (lv_at hl 4 rfl) ?_
                  refine x_addN hx hb dX3_makeStep_199 ?_
                  refine lv_iload_n hx hb dX3_makeStep_200 rfl (lv_at hl 2 rfl) ?_
                  refine lv_if_ge (tgt := 224) hx hb dX3_makeStep_201 (by decide) (fun h => absurd h (by decide)) (fun _ => ?_)
                  refine lv_aload_n hx hb dX3_makeStep_204 rfl (lv_at hl 0 rfl) ?_
                  refine va_get (D := D) (ci := 3) (C := RX3) (T := TX3) (N := 10) hx hb hts in_X3 hown K hP 0 rfl rfl 0 (by decide) (hts _ q1075) (fun _ h9 => h9) rfl dX3_makeStep_205 ?_
                  refine lv_aload_n hx hb dX3_makeStep_208 rfl (lv_at hl 0 rfl) ?_
                  refine lv_iload_n hx hb dX3_makeStep_209 rfl (lv_at hl 1 rfl) ?_
                  refine lv_iload hx hb dX3_makeStep_210 (lv_at hl 4 rfl) ?_
                  refine x_ret (va_runV (As := [.int (nI pl), .int (nI k)]) (rest := [.ref hr, .int (nI (((84 + (9 * q)) + 1) + k)), .ref hr]) S (mr_server l D dA h0 hr [.ref hp, .ref ha, .ref hf, .int (nI hs), .int (bI ias), .ref ht, .int (nI ln), .int (nI pa), .ref hd] (cutR (upd row 5 ((row 5) + (nI 1))) q (-5) (msVal row n cu pl) k) (mwf_cg w (by rw [cutR_lo (by omega)]; simp [upd]) (by rw [cutR_lo (by omega)]; simp [upd]) (by rw [cutR_lo (by omega)]; simp [upd]) (fun k hk => by rw [cutR_lo (by omega)]; first | (rw [pk_un (by omega), pk_un (by omega)]) | (rw [pk_un (by omega)]))) pl k (by omega) (by omega)) (cwV 2 hts (lw_V q1247 q1249 qs45 q69 q1250) rfl rfl rfl hdX3_server ⟨Nat.le_of_ble_eq_true rfl, Nat.le_of_ble_eq_true rfl⟩) ⟨bb_blind ka_bl _, va_recv K hP (ci := 3) (q0 := 0) rfl rfl, ka_pre K (hP.sub [0, 1] rfl) _⟩ rfl rfl hl.1 rfl (lv_room (Nat.le_of_ble_eq_true rfl)) dX3_makeStep_212 ⟨by omega, by omega⟩) ?_
                  refine x_top (y := nI sv) (by rw [agr_server hag2 hn (by omega), hsk]; rfl) ?_
                  refine lv_iload hx hb dX3_makeStep_215 (lv_at hl 4 rfl) ?_
                  refine x_ret (va_runS (As := [.int (nI sv), .int (nI k)]) (rest := [.ref hr, .int (nI (((84 + (9 * q)) + 1) + k)), .ref hr]) S (mr_route l sv k) (va_cwS 2 hts (lw_S q1170 q1171 q69 q1172) rfl rfl rfl hdX3_route ⟨Nat.le_of_ble_eq_true rfl, Nat.le_of_ble_eq_true rfl⟩) ⟨bb_blind tt_bl _, tt_pre _⟩ rfl rfl hl.1 rfl (lv_room (Nat.le_of_ble_eq_true rfl)) dX3_makeStep_217 ⟨by omega, by omega⟩) ?_
                  refine x_iald (v := row (21 + 8 * sv + k)) hx hb K hP 1 0 rfl rfl (21 + 8 * sv + k) rfl (by omega) (by decide) (by rw [cutR_lo (by omega)]; first | rw [pk_un (by omega), pk_un (by omega)] | rw [pk_un (by omega)]) dX3_makeStep_220 ?_
                  refine lv_goto (tgt := 225) hx hb dX3_makeStep_221 (by decide) ?_
                  refine x_iast hx hb K hP hD hS 1 0 rfl rfl (((84 + (9 * q)) + 1) + k) rfl (by omega) (by decide) dX3_makeStep_225 (fun H locs hP hD hS => ?_)
                  have hP : va_P D vwCl [(h0, .inr (3, [.ref hr, .ref hp, .ref ha, .ref hf, .int (nI hs), .int (bI ias), .ref ht, .int (nI ln), .int (nI pa), .ref hd])), (hr, .inl (dA 0, 444, .inl (upd (cutR (upd row 5 ((row 5) + (nI 1))) q (-5) (msVal row n cu pl) k) (((84 + (9 * q)) + 1) + k) (row (21 + 8 * sv + k))))), (hp, .inl (dA 0, 1776, .inl past)), (ha, .inl (dA 0, 444, .inl aside)), (hf, .inl (dA 0, 444, .inl bef)), (ht, .inl (dA 3, 60, .inl txt)), (hd, .inl (dA 0, 8, .inl rd))] H := hP
                  have hD : va_D A [(h0, .inr (3, [.ref hr, .ref hp, .ref ha, .ref hf, .int (nI hs), .int (bI ias), .ref ht, .int (nI ln), .int (nI pa), .ref hd])), (hr, .inl (dA 0, 444, .inl (upd (cutR (upd row 5 ((row 5) + (nI 1))) q (-5) (msVal row n cu pl) k) (((84 + (9 * q)) + 1) + k) (row (21 + 8 * sv + k))))), (hp, .inl (dA 0, 1776, .inl past)), (ha, .inl (dA 0, 444, .inl aside)), (hf, .inl (dA 0, 444, .inl bef)), (ht, .inl (dA 3, 60, .inl txt)), (hd, .inl (dA 0, 8, .inl rd))] := hD
                  refine lv_iinc (v := nI (k + 1)) (lv' := [(6, .int (nI (k + 1))), (0, .ref h0), (1, .int (nI pl)), (2, .int (-5)), (5, .int (nI (84 + (9 * q))))]) hx hb dX3_makeStep_226 hl (k := 4) rfl (nI_1 k) (by decide) rfl (fun ls hl => ?_)
                  refine lv_goto (tgt := 178) hx hb dX3_makeStep_229 (by decide) ?_
                  have hcs := cutR_s (upd row 5 ((row 5) + (nI 1))) q (-5) (msVal row n cu pl) k
                  rw [show (msVal row n cu pl k) = (row (21 + 8 * sv + k)) from (by simp [msVal, h_3, hsk])] at hcs
                  rw [hcs] at hP hD
                  refine ih ls H locs ⟨?_, hP, hD, hS⟩
                  show lv_has ls 7 [(0, .ref h0), (1, .int (nI pl)), (2, .int (-5)), (5, .int (nI (84 + (9 * q)))), (6, .int (nI (k + 1)))]
                  exact lv_sub hl [1, 2, 3, 4, 0] rfl
                · intro ls H locs hI
                  obtain ⟨hl, hP, hD, hS⟩ := hI
                  have hl : lv_has ls 7 [(0, .ref h0), (1, .int (nI pl)), (2, .int (-5)), (5, .int (nI (84 + (9 * q)))), (6, .int (nI cu))] := hl
                  have hP : va_P D vwCl [(h0, .inr (3, [.ref hr, .ref hp, .ref ha, .ref hf, .int (nI hs), .int (bI ias), .ref ht, .int (nI ln), .int (nI pa), .ref hd])), (hr, .inl (dA 0, 444, .inl (cutR (upd row 5 ((row 5) + (nI 1))) q (-5) (msVal row n cu pl) cu))), (hp, .inl (dA 0, 1776, .inl past)), (ha, .inl (dA 0, 444, .inl aside)), (hf, .inl (dA 0, 444, .inl bef)), (ht, .inl (dA 3, 60, .inl txt)), (hd, .inl (dA 0, 8, .inl rd))] H := hP
                  have hD : va_D A [(h0, .inr (3, [.ref hr, .ref hp, .ref ha, .ref hf, .int (nI hs), .int (bI ias), .ref ht, .int (nI ln), .int (nI pa), .ref hd])), (hr, .inl (dA 0, 444, .inl (cutR (upd row 5 ((row 5) + (nI 1))) q (-5) (msVal row n cu pl) cu))), (hp, .inl (dA 0, 1776, .inl past)), (ha, .inl (dA 0, 444, .inl aside)), (hf, .inl (dA 0, 444, .inl bef)), (ht, .inl (dA 3, 60, .inl txt)), (hd, .inl (dA 0, 8, .inl rd))] := hD
                  show W p l e (rmW 5 200 0 0) s m ([.ref h0]).toArray below meth c H locs 0 0 (MQ below (QW (some (.int (msRes row n cu q))) D (mW dA h0 hr hp ha hf ht hd (msRow row n cu q bst) past aside bef txt rd hs ias ln pa) A) ([.ref h0]).toArray s 0 0 A) (F0 m 178 ls [])
                  refine lv_iload hx hb dX3_makeStep_178 (lv_at hl 4 rfl) ?_
                  refine lv_aload_n hx hb dX3_makeStep_180 rfl (lv_at hl 0 rfl) ?_
                  refine va_get (D := D) (ci := 3) (C := RX3) (T := TX3) (N := 10) hx hb hts in_X3 hown K hP 0 rfl rfl 0 (by decide) (hts _ q1075) (fun _ h9 => h9) rfl dX3_makeStep_181 ?_
                  refine lv_iconst (v := nI 1) hx hb dX3_makeStep_184 (by decide) ?_
                  refine x_iald (v := nI cu) hx hb K hP 1 0 rfl rfl 1 rfl (by omega) (by decide) (by rw [cutR_lo (by omega)]; first | (rw [pk_un (by omega), pk_un (by omega)]; exact e1) | (rw [pk_un (by omega)]; exact e1)) dX3_makeStep_185 ?_
                  refine lv_icmp_ge (tgt := 232) hx hb dX3_makeStep_186 (by decide) (fun _ => ?_) (fun h => absurd (nI_le (by omega) (by omega)) h)
                  refine lv_aload_n hx hb dX3_makeStep_232 rfl (lv_at hl 0 rfl) ?_
                  refine va_get (D := D) (ci := 3) (C := RX3) (T := TX3) (N := 10) hx hb hts in_X3 hown K hP 0 rfl rfl 0 (by decide) (hts _ q1075) (fun _ h9 => h9) rfl dX3_makeStep_233 ?_
                  refine lv_iconst (v := nI 3) hx hb dX3_makeStep_236 (by decide) ?_
                  refine lv_dup2_11 hx hb dX3_makeStep_237 rfl rfl ?_
                  refine x_iald (v := nI q) hx hb K hP 1 0 rfl rfl 3 rfl (by omega) (by decide) (by rw [cutR_lo (by omega)]; first | (rw [pk_un (by omega), pk_un (by omega)]; exact e3) | (rw [pk_un (by omega)]; exact e3)) dX3_makeStep_238 ?_
                  refine lv_iconst (v := nI 1) hx hb dX3_makeStep_239 (by decide) ?_
                  refine x_addN hx hb dX3_makeStep_240 ?_
                  refine x_iast hx hb K hP hD hS 1 0 rfl rfl 3 rfl (by omega) (by decide) dX3_makeStep_241 (fun H locs hP hD hS => ?_)
                  have hP : va_P D vwCl [(h0, .inr (3, [.ref hr, .ref hp, .ref ha, .ref hf, .int (nI hs), .int (bI ias), .ref ht, .int (nI ln), .int (nI pa), .ref hd])), (hr, .inl (dA 0, 444, .inl (upd (cutR (upd row 5 ((row 5) + (nI 1))) q (-5) (msVal row n cu pl) cu) 3 (nI (q + 1))))), (hp, .inl (dA 0, 1776, .inl past)), (ha, .inl (dA 0, 444, .inl aside)), (hf, .inl (dA 0, 444, .inl bef)), (ht, .inl (dA 3, 60, .inl txt)), (hd, .inl (dA 0, 8, .inl rd))] H := hP
                  have hD : va_D A [(h0, .inr (3, [.ref hr, .ref hp, .ref ha, .ref hf, .int (nI hs), .int (bI ias), .ref ht, .int (nI ln), .int (nI pa), .ref hd])), (hr, .inl (dA 0, 444, .inl (upd (cutR (upd row 5 ((row 5) + (nI 1))) q (-5) (msVal row n cu pl) cu) 3 (nI (q + 1))))), (hp, .inl (dA 0, 1776, .inl past)), (ha, .inl (dA 0, 444, .inl aside)), (hf, .inl (dA 0, 444, .inl bef)), (ht, .inl (dA 3, 60, .inl txt)), (hd, .inl (dA 0, 8, .inl rd))] := hD
                  refine lv_iload_n hx hb dX3_makeStep_242 rfl (lv_at hl 2 rfl) ?_
                  refine lv_if_ge (tgt := 250) hx hb dX3_makeStep_243 (by decide) (fun h => absurd h (by decide)) (fun _ => ?_)
                  refine lv_iconst (v := nI 1) hx hb dX3_makeStep_246 (by decide) ?_
                  refine lv_goto (tgt := 251) hx hb dX3_makeStep_247 (by decide) ?_
                  rw [show msRow row n cu q bst = upd (cutR (upd row 5 ((row 5) + (nI 1))) q (-5) (msVal row n cu pl) cu) 3 (nI (q + 1)) from (by simp [msRow, msRes, msPlan, msSolved, msBest, msRow2, mCost, oI_n, oI_s, h_1, h_2, h_3, h_15, h_17, h_19, h_26])]
                  exact x_viret hx hb hrt hlk (by simp [msRow, msRes, msPlan, msSolved, msBest, msRow2, mCost, oI_n, oI_s, h_1, h_2, h_3, h_15, h_17, h_19, h_26]) hP hD hS dX3_makeStep_251 (Nat.le_of_ble_eq_true rfl) (Nat.le_of_ble_eq_true rfl)
              · refine lv_aload_n hx hb dX3_makeStep_139 rfl (lv_at hl 4 rfl) ?_
                refine va_get (D := D) (ci := 3) (C := RX3) (T := TX3) (N := 10) hx hb hts in_X3 hown K hP 0 rfl rfl 0 (by decide) (hts _ q1075) (fun _ h9 => h9) rfl dX3_makeStep_140 ?_
                refine lv_iconst (v := nI 4) hx hb dX3_makeStep_143 (by decide) ?_
                refine lv_iload_n hx hb dX3_makeStep_144 rfl (lv_at hl 3 rfl) ?_
                refine x_top (y := nI pl) (by rw [h_2]; rfl) ?_
                refine x_iast hx hb K hP hD hS 1 0 rfl rfl 4 rfl (by omega) (by decide) dX3_makeStep_145 (fun H locs hP hD hS => ?_)
                have hP : va_P D vwCl [(h0, .inr (3, [.ref hr, .ref hp, .ref ha, .ref hf, .int (nI hs), .int (bI ias), .ref ht, .int (nI ln), .int (nI pa), .ref hd])), (hr, .inl (dA 0, 444, .inl (upd (upd row 5 ((row 5) + (nI 1))) 4 (nI pl)))), (hp, .inl (dA 0, 1776, .inl past)), (ha, .inl (dA 0, 444, .inl aside)), (hf, .inl (dA 0, 444, .inl bef)), (ht, .inl (dA 3, 60, .inl txt)), (hd, .inl (dA 0, 8, .inl rd))] H := hP
                have hD : va_D A [(h0, .inr (3, [.ref hr, .ref hp, .ref ha, .ref hf, .int (nI hs), .int (bI ias), .ref ht, .int (nI ln), .int (nI pa), .ref hd])), (hr, .inl (dA 0, 444, .inl (upd (upd row 5 ((row 5) + (nI 1))) 4 (nI pl)))), (hp, .inl (dA 0, 1776, .inl past)), (ha, .inl (dA 0, 444, .inl aside)), (hf, .inl (dA 0, 444, .inl bef)), (ht, .inl (dA 3, 60, .inl txt)), (hd, .inl (dA 0, 8, .inl rd))] := hD
                refine lv_iload hx hb dX3_makeStep_146 (lv_at hl 0 rfl) ?_
                refine lv_if_eq (tgt := 153) hx hb dX3_makeStep_148 (by decide) (fun _ => ?_) (fun h => absurd (by decide) h)
                refine lv_bipush (v := nI 84) hx hb dX3_makeStep_153 (by decide) ?_
                refine lv_bipush (v := nI 9) hx hb dX3_makeStep_155 (by decide) ?_
                refine lv_aload_n hx hb dX3_makeStep_157 rfl (lv_at hl 4 rfl) ?_
                refine va_get (D := D) (ci := 3) (C := RX3) (T := TX3) (N := 10) hx hb hts in_X3 hown K hP 0 rfl rfl 0 (by decide) (hts _ q1075) (fun _ h9 => h9) rfl dX3_makeStep_158 ?_
                refine lv_iconst (v := nI 3) hx hb dX3_makeStep_161 (by decide) ?_
                refine x_iald (v := nI q) hx hb K hP 1 0 rfl rfl 3 rfl (by omega) (by decide) (by first | (rw [pk_un (by omega), pk_un (by omega)]; exact e3) | (rw [pk_un (by omega)]; exact e3)) dX3_makeStep_162 ?_
                refine x_mulN hx hb dX3_makeStep_163 ?_
                refine x_addN hx hb dX3_makeStep_164 ?_
                refine lv_istore (lv' := [(5, .int (nI (84 + (9 * q)))), (4, .int (nI 0)), (3, .int ((mPrices row n pl) + (mRoutes row n cu pl))), (2, .int (oI (mMissed row n cu pl))), (1, .int (oI (mMaster row n cu q))), (0, .ref h0)]) hx hb dX3_makeStep_165 hl (by decide) rfl (fun ls hl => ?_)
                refine lv_aload_n hx hb dX3_makeStep_167 rfl (lv_at hl 5 rfl) ?_
                refine va_get (D := D) (ci := 3) (C := RX3) (T := TX3) (N := 10) hx hb hts in_X3 hown K hP 0 rfl rfl 0 (by decide) (hts _ q1075) (fun _ h9 => h9) rfl dX3_makeStep_168 ?_
                refine lv_iload hx hb dX3_makeStep_171 (lv_at hl 0 rfl) ?_
                refine lv_iload_n hx hb dX3_makeStep_173 rfl (lv_at hl 3 rfl) ?_
                refine x_top (y := -5) (by rw [h_3]; rfl) ?_
                refine x_iast hx hb K hP hD hS 1 0 rfl rfl (84 + (9 * q)) rfl (by omega) (by decide) dX3_makeStep_174 (fun H locs hP hD hS => ?_)
                have hP : va_P D vwCl [(h0, .inr (3, [.ref hr, .ref hp, .ref ha, .ref hf, .int (nI hs), .int (bI ias), .ref ht, .int (nI ln), .int (nI pa), .ref hd])), (hr, .inl (dA 0, 444, .inl (upd (upd (upd row 5 ((row 5) + (nI 1))) 4 (nI pl)) (84 + (9 * q)) (-5)))), (hp, .inl (dA 0, 1776, .inl past)), (ha, .inl (dA 0, 444, .inl aside)), (hf, .inl (dA 0, 444, .inl bef)), (ht, .inl (dA 3, 60, .inl txt)), (hd, .inl (dA 0, 8, .inl rd))] H := hP
                have hD : va_D A [(h0, .inr (3, [.ref hr, .ref hp, .ref ha, .ref hf, .int (nI hs), .int (bI ias), .ref ht, .int (nI ln), .int (nI pa), .ref hd])), (hr, .inl (dA 0, 444, .inl (upd (upd (upd row 5 ((row 5) + (nI 1))) 4 (nI pl)) (84 + (9 * q)) (-5)))), (hp, .inl (dA 0, 1776, .inl past)), (ha, .inl (dA 0, 444, .inl aside)), (hf, .inl (dA 0, 444, .inl bef)), (ht, .inl (dA 3, 60, .inl txt)), (hd, .inl (dA 0, 8, .inl rd))] := hD
                refine lv_iconst (v := nI 0) hx hb dX3_makeStep_175 (by decide) ?_
                refine lv_istore (lv' := [(6, .int (nI 0)), (5, .int (nI (84 + (9 * q)))), (4, .int (nI 0)), (3, .int ((mPrices row n pl) + (mRoutes row n cu pl))), (2, .int (oI (mMissed row n cu pl))), (1, .int (oI (mMaster row n cu q))), (0, .ref h0)]) hx hb dX3_makeStep_176 hl (by decide) rfl (fun ls hl => ?_)
                rw [cutR_0 (upd (upd row 5 ((row 5) + (nI 1))) 4 (nI pl)) q (-5) (msVal row n cu pl)] at hP hD
                have hl : lv_has ls 7 [(0, .ref h0), (1, .int (oI (mMaster row n cu q))), (2, .int (oI (mMissed row n cu pl))), (5, .int (nI (84 + (9 * q)))), (6, .int (nI 0))] := lv_sub hl [6, 5, 4, 1, 0] rfl
                rw [h_2, h_3] at hl
                have hl : lv_has ls 7 [(0, .ref h0), (1, .int (nI pl)), (2, .int (-5)), (5, .int (nI (84 + (9 * q)))), (6, .int (nI 0))] := hl
                refine lpW (fun _ a => a) () cu (fun k g ls H locs => lv_has ls 7 [(0, .ref h0), (1, .int (nI pl)), (2, .int (-5)), (5, .int (nI (84 + (9 * q)))), (6, .int (nI k))] ∧ va_P D vwCl [(h0, .inr (3, [.ref hr, .ref hp, .ref ha, .ref hf, .int (nI hs), .int (bI ias), .ref ht, .int (nI ln), .int (nI pa), .ref hd])), (hr, .inl (dA 0, 444, .inl (cutR (upd (upd row 5 ((row 5) + (nI 1))) 4 (nI pl)) q (-5) (msVal row n cu pl) k))), (hp, .inl (dA 0, 1776, .inl past)), (ha, .inl (dA 0, 444, .inl aside)), (hf, .inl (dA 0, 444, .inl bef)), (ht, .inl (dA 3, 60, .inl txt)), (hd, .inl (dA 0, 8, .inl rd))] H ∧ va_D A [(h0, .inr (3, [.ref hr, .ref hp, .ref ha, .ref hf, .int (nI hs), .int (bI ias), .ref ht, .int (nI ln), .int (nI pa), .ref hd])), (hr, .inl (dA 0, 444, .inl (cutR (upd (upd row 5 ((row 5) + (nI 1))) 4 (nI pl)) q (-5) (msVal row n cu pl) k))), (hp, .inl (dA 0, 1776, .inl past)), (ha, .inl (dA 0, 444, .inl aside)), (hf, .inl (dA 0, 444, .inl bef)), (ht, .inl (dA 3, 60, .inl txt)), (hd, .inl (dA 0, 8, .inl rd))] ∧ va_S A s.heap H locs) (fun ls H locs => W p l e (rmW 5 200 0 0) s m ([.ref h0]).toArray below meth c H locs 0 0 (MQ below (QW (some (.int (msRes row n cu q))) D (mW dA h0 hr hp ha hf ht hd (msRow row n cu q bst) past aside bef txt rd hs ias ln pa) A) ([.ref h0]).toArray s 0 0 A) (F0 m 178 ls [])) ?_ ?_ ls H locs ⟨lv_sub hl [0, 1, 2, 3, 4] rfl, hP, hD, hS⟩
                · intro k ls H locs hk_34 hI ih
                  obtain ⟨sv, hsk⟩ := hsv0 k hk_34
                  have hsl := mServer_lt hsk
                  have hag2 : Agr (cutR (upd (upd row 5 ((row 5) + (nI 1))) 4 (nI pl)) q (-5) (msVal row n cu pl) k) row := agr_trans (agr_cutR _ _ _ _ _) (agr_trans (agr_upd _ _ (Or.inr (Or.inl rfl))) (agr_upd _ _ (Or.inr (Or.inr (Or.inl rfl)))))
                  obtain ⟨hl, hP, hD, hS⟩ := hI
                  have hl : lv_has ls 7 [(0, .ref h0), (1, .int (nI pl)), (2, .int (-5)), (5, .int (nI (84 + (9 * q)))), (6, .int (nI k))] := hl
                  have hP : va_P D vwCl [(h0, .inr (3, [.ref hr, .ref hp, .ref ha, .ref hf, .int (nI hs), .int (bI ias), .ref ht, .int (nI ln), .int (nI pa), .ref hd])), (hr, .inl (dA 0, 444, .inl (cutR (upd (upd row 5 ((row 5) + (nI 1))) 4 (nI pl)) q (-5) (msVal row n cu pl) k))), (hp, .inl (dA 0, 1776, .inl past)), (ha, .inl (dA 0, 444, .inl aside)), (hf, .inl (dA 0, 444, .inl bef)), (ht, .inl (dA 3, 60, .inl txt)), (hd, .inl (dA 0, 8, .inl rd))] H := hP
                  have hD : va_D A [(h0, .inr (3, [.ref hr, .ref hp, .ref ha, .ref hf, .int (nI hs), .int (bI ias), .ref ht, .int (nI ln), .int (nI pa), .ref hd])), (hr, .inl (dA 0, 444, .inl (cutR (upd (upd row 5 ((row 5) + (nI 1))) 4 (nI pl)) q (-5) (msVal row n cu pl) k))), (hp, .inl (dA 0, 1776, .inl past)), (ha, .inl (dA 0, 444, .inl aside)), (hf, .inl (dA 0, 444, .inl bef)), (ht, .inl (dA 3, 60, .inl txt)), (hd, .inl (dA 0, 8, .inl rd))] := hD
                  show W p l e (rmW 5 200 0 0) s m ([.ref h0]).toArray below meth c H locs 0 0 (MQ below (QW (some (.int (msRes row n cu q))) D (mW dA h0 hr hp ha hf ht hd (msRow row n cu q bst) past aside bef txt rd hs ias ln pa) A) ([.ref h0]).toArray s 0 0 A) (F0 m 178 ls [])
                  refine lv_iload hx hb dX3_makeStep_178 (lv_at hl 4 rfl) ?_
                  refine lv_aload_n hx hb dX3_makeStep_180 rfl (lv_at hl 0 rfl) ?_
                  refine va_get (D := D) (ci := 3) (C := RX3) (T := TX3) (N := 10) hx hb hts in_X3 hown K hP 0 rfl rfl 0 (by decide) (hts _ q1075) (fun _ h9 => h9) rfl dX3_makeStep_181 ?_
                  refine lv_iconst (v := nI 1) hx hb dX3_makeStep_184 (by decide) ?_
                  refine x_iald (v := nI cu) hx hb K hP 1 0 rfl rfl 1 rfl (by omega) (by decide) (by rw [cutR_lo (by omega)]; first | (rw [pk_un (by omega), pk_un (by omega)]; exact e1) | (rw [pk_un (by omega)]; exact e1)) dX3_makeStep_185 ?_
                  refine lv_icmp_ge (tgt := 232) hx hb dX3_makeStep_186 (by decide) (fun h => absurd h (nI_ge hk_34 (by omega))) (fun _ => ?_)
                  refine lv_aload_n hx hb dX3_makeStep_189 rfl (lv_at hl 0 rfl) ?_
                  refine va_get (D := D) (ci := 3) (C := RX3) (T := TX3) (N := 10) hx hb hts in_X3 hown K hP 0 rfl rfl 0 (by decide) (hts _ q1075) (fun _ h9 => h9) rfl dX3_makeStep_190 ?_
                  refine lv_iload hx hb dX3_makeStep_193 (lv_at hl 3 rfl) ?_
                  refine lv_iconst (v := nI 1) hx hb dX3_makeStep_195 (by decide) ?_
                  refine x_addN hx hb dX3_makeStep_196 ?_
                  refine lv_iload hx hb dX3_makeStep_197 (lv_at hl 4 rfl) ?_
                  refine x_addN hx hb dX3_makeStep_199 ?_
                  refine lv_iload_n hx hb dX3_makeStep_200 rfl (lv_at hl 2 rfl) ?_
                  refine lv_if_ge (tgt := 224) hx hb dX3_makeStep_201 (by decide) (fun h => absurd h (by decide)) (fun _ => ?_)
                  refine lv_aload_n hx hb dX3_makeStep_204 rfl (lv_at hl 0 rfl) ?_
                  refine va_get (D := D) (ci := 3) (C := RX3) (T := TX3) (N := 10) hx hb hts in_X3 hown K hP 0 rfl rfl 0 (by decide) (hts _ q1075) (fun _ h9 => h9) rfl dX3_makeStep_205 ?_
                  refine lv_aload_n hx hb dX3_makeStep_208 rfl (lv_at hl 0 rfl) ?_
                  refine lv_iload_n hx hb dX3_makeStep_209 rfl (lv_at hl 1 rfl) ?_
                  refine lv_iload hx hb dX3_makeStep_210 (lv_at hl 4 rfl) ?_
                  refine x_ret (va_runV (As := [.int (nI pl), .int (nI k)]) (rest := [.ref hr, .int (nI (((84 + (9 * q)) + 1) + k)), .ref hr]) S (mr_server l D dA h0 hr [.ref hp, .ref ha, .ref hf, .int (nI hs), .int (bI ias), .ref ht, .int (nI ln), .int (nI pa), .ref hd] (cutR (upd (upd row 5 ((row 5) + (nI 1))) 4 (nI pl)) q (-5) (msVal row n cu pl) k) (mwf_cg w (by rw [cutR_lo (by omega)]; simp [upd]) (by rw [cutR_lo (by omega)]; simp [upd]) (by rw [cutR_lo (by omega)]; simp [upd]) (fun k hk => by rw [cutR_lo (by omega)]; first | (rw [pk_un (by omega), pk_un (by omega)]) | (rw [pk_un (by omega)]))) pl k (by omega) (by omega)) (cwV 2 hts (lw_V q1247 q1249 qs45 q69 q1250) rfl rfl rfl hdX3_server ⟨Nat.le_of_ble_eq_true rfl, Nat.le_of_ble_eq_true rfl⟩) ⟨bb_blind ka_bl _, va_recv K hP (ci := 3) (q0 := 0) rfl rfl, ka_pre K (hP.sub [0, 1] rfl) _⟩ rfl rfl hl.1 rfl (lv_room (Nat.le_of_ble_eq_true rfl)) dX3_makeStep_212 ⟨by omega, by omega⟩) ?_
                  refine x_top (y := nI sv) (by rw [agr_server hag2 hn (by omega), hsk]; rfl) ?_
                  refine lv_iload hx hb dX3_makeStep_215 (lv_at hl 4 rfl) ?_
                  refine x_ret (va_runS (As := [.int (nI sv), .int (nI k)]) (rest := [.ref hr, .int (nI (((84 + (9 * q)) + 1) + k)), .ref hr]) S (mr_route l sv k) (va_cwS 2 hts (lw_S q1170 q1171 q69 q1172) rfl rfl rfl hdX3_route ⟨Nat.le_of_ble_eq_true rfl, Nat.le_of_ble_eq_true rfl⟩) ⟨bb_blind tt_bl _, tt_pre _⟩ rfl rfl hl.1 rfl (lv_room (Nat.le_of_ble_eq_true rfl)) dX3_makeStep_217 ⟨by omega, by omega⟩) ?_
                  refine x_iald (v := row (21 + 8 * sv + k)) hx hb K hP 1 0 rfl rfl (21 + 8 * sv + k) rfl (by omega) (by decide) (by rw [cutR_lo (by omega)]; first | rw [pk_un (by omega), pk_un (by omega)] | rw [pk_un (by omega)]) dX3_makeStep_220 ?_
                  refine lv_goto (tgt := 225) hx hb dX3_makeStep_221 (by decide) ?_
                  refine x_iast hx hb K hP hD hS 1 0 rfl rfl (((84 + (9 * q)) + 1) + k) rfl (by omega) (by decide) dX3_makeStep_225 (fun H locs hP hD hS => ?_)
                  have hP : va_P D vwCl [(h0, .inr (3, [.ref hr, .ref hp, .ref ha, .ref hf, .int (nI hs), .int (bI ias), .ref ht, .int (nI ln), .int (nI pa), .ref hd])), (hr, .inl (dA 0, 444, .inl (upd (cutR (upd (upd row 5 ((row 5) + (nI 1))) 4 (nI pl)) q (-5) (msVal row n cu pl) k) (((84 + (9 * q)) + 1) + k) (row (21 + 8 * sv + k))))), (hp, .inl (dA 0, 1776, .inl past)), (ha, .inl (dA 0, 444, .inl aside)), (hf, .inl (dA 0, 444, .inl bef)), (ht, .inl (dA 3, 60, .inl txt)), (hd, .inl (dA 0, 8, .inl rd))] H := hP
                  have hD : va_D A [(h0, .inr (3, [.ref hr, .ref hp, .ref ha, .ref hf, .int (nI hs), .int (bI ias), .ref ht, .int (nI ln), .int (nI pa), .ref hd])), (hr, .inl (dA 0, 444, .inl (upd (cutR (upd (upd row 5 ((row 5) + (nI 1))) 4 (nI pl)) q (-5) (msVal row n cu pl) k) (((84 + (9 * q)) + 1) + k) (row (21 + 8 * sv + k))))), (hp, .inl (dA 0, 1776, .inl past)), (ha, .inl (dA 0, 444, .inl aside)), (hf, .inl (dA 0, 444, .inl bef)), (ht, .inl (dA 3, 60, .inl txt)), (hd, .inl (dA 0, 8, .inl rd))] := hD
                  refine lv_iinc (v := nI (k + 1)) (lv' := [(6, .int (nI (k + 1))), (0, .ref h0), (1, .int (nI pl)), (2, .int (-5)), (5, .int (nI (84 + (9 * q))))]) hx hb dX3_makeStep_226 hl (k := 4) rfl (nI_1 k) (by decide) rfl (fun ls hl => ?_)
                  refine lv_goto (tgt := 178) hx hb dX3_makeStep_229 (by decide) ?_
                  have hcs := cutR_s (upd (upd row 5 ((row 5) + (nI 1))) 4 (nI pl)) q (-5) (msVal row n cu pl) k
                  rw [show (msVal row n cu pl k) = (row (21 + 8 * sv + k)) from (by simp [msVal, h_3, hsk])] at hcs
                  rw [hcs] at hP hD
                  refine ih ls H locs ⟨?_, hP, hD, hS⟩
                  show lv_has ls 7 [(0, .ref h0), (1, .int (nI pl)), (2, .int (-5)), (5, .int (nI (84 + (9 * q)))), (6, .int (nI (k + 1)))]
                  exact lv_sub hl [1, 2, 3, 4, 0] rfl
                · intro ls H locs hI
                  obtain ⟨hl, hP, hD, hS⟩ := hI
                  have hl : lv_has ls 7 [(0, .ref h0), (1, .int (nI pl)), (2, .int (-5)), (5, .int (nI (84 + (9 * q)))), (6, .int (nI cu))] := hl
                  have hP : va_P D vwCl [(h0, .inr (3, [.ref hr, .ref hp, .ref ha, .ref hf, .int (nI hs), .int (bI ias), .ref ht, .int (nI ln), .int (nI pa), .ref hd])), (hr, .inl (dA 0, 444, .inl (cutR (upd (upd row 5 ((row 5) + (nI 1))) 4 (nI pl)) q (-5) (msVal row n cu pl) cu))), (hp, .inl (dA 0, 1776, .inl past)), (ha, .inl (dA 0, 444, .inl aside)), (hf, .inl (dA 0, 444, .inl bef)), (ht, .inl (dA 3, 60, .inl txt)), (hd, .inl (dA 0, 8, .inl rd))] H := hP
                  have hD : va_D A [(h0, .inr (3, [.ref hr, .ref hp, .ref ha, .ref hf, .int (nI hs), .int (bI ias), .ref ht, .int (nI ln), .int (nI pa), .ref hd])), (hr, .inl (dA 0, 444, .inl (cutR (upd (upd row 5 ((row 5) + (nI 1))) 4 (nI pl)) q (-5) (msVal row n cu pl) cu))), (hp, .inl (dA 0, 1776, .inl past)), (ha, .inl (dA 0, 444, .inl aside)), (hf, .inl (dA 0, 444, .inl bef)), (ht, .inl (dA 3, 60, .inl txt)), (hd, .inl (dA 0, 8, .inl rd))] := hD
                  show W p l e (rmW 5 200 0 0) s m ([.ref h0]).toArray below meth c H locs 0 0 (MQ below (QW (some (.int (msRes row n cu q))) D (mW dA h0 hr hp ha hf ht hd (msRow row n cu q bst) past aside bef txt rd hs ias ln pa) A) ([.ref h0]).toArray s 0 0 A) (F0 m 178 ls [])
                  refine lv_iload hx hb dX3_makeStep_178 (lv_at hl 4 rfl) ?_
                  refine lv_aload_n hx hb dX3_makeStep_180 rfl (lv_at hl 0 rfl) ?_
                  refine va_get (D := D) (ci := 3) (C := RX3) (T := TX3) (N := 10) hx hb hts in_X3 hown K hP 0 rfl rfl 0 (by decide) (hts _ q1075) (fun _ h9 => h9) rfl dX3_makeStep_181 ?_
                  refine lv_iconst (v := nI 1) hx hb dX3_makeStep_184 (by decide) ?_
                  refine x_iald (v := nI cu) hx hb K hP 1 0 rfl rfl 1 rfl (by omega) (by decide) (by rw [cutR_lo (by omega)]; first | (rw [pk_un (by omega), pk_un (by omega)]; exact e1) | (rw [pk_un (by omega)]; exact e1)) dX3_makeStep_185 ?_
                  refine lv_icmp_ge (tgt := 232) hx hb dX3_makeStep_186 (by decide) (fun _ => ?_) (fun h => absurd (nI_le (by omega) (by omega)) h)
                  refine lv_aload_n hx hb dX3_makeStep_232 rfl (lv_at hl 0 rfl) ?_
                  refine va_get (D := D) (ci := 3) (C := RX3) (T := TX3) (N := 10) hx hb hts in_X3 hown K hP 0 rfl rfl 0 (by decide) (hts _ q1075) (fun _ h9 => h9) rfl dX3_makeStep_233 ?_
                  refine lv_iconst (v := nI 3) hx hb dX3_makeStep_236 (by decide) ?_
                  refine lv_dup2_11 hx hb dX3_makeStep_237 rfl rfl ?_
                  refine x_iald (v := nI q) hx hb K hP 1 0 rfl rfl 3 rfl (by omega) (by decide) (by rw [cutR_lo (by omega)]; first | (rw [pk_un (by omega), pk_un (by omega)]; exact e3) | (rw [pk_un (by omega)]; exact e3)) dX3_makeStep_238 ?_
                  refine lv_iconst (v := nI 1) hx hb dX3_makeStep_239 (by decide) ?_
                  refine x_addN hx hb dX3_makeStep_240 ?_
                  refine x_iast hx hb K hP hD hS 1 0 rfl rfl 3 rfl (by omega) (by decide) dX3_makeStep_241 (fun H locs hP hD hS => ?_)
                  have hP : va_P D vwCl [(h0, .inr (3, [.ref hr, .ref hp, .ref ha, .ref hf, .int (nI hs), .int (bI ias), .ref ht, .int (nI ln), .int (nI pa), .ref hd])), (hr, .inl (dA 0, 444, .inl (upd (cutR (upd (upd row 5 ((row 5) + (nI 1))) 4 (nI pl)) q (-5) (msVal row n cu pl) cu) 3 (nI (q + 1))))), (hp, .inl (dA 0, 1776, .inl past)), (ha, .inl (dA 0, 444, .inl aside)), (hf, .inl (dA 0, 444, .inl bef)), (ht, .inl (dA 3, 60, .inl txt)), (hd, .inl (dA 0, 8, .inl rd))] H := hP
                  have hD : va_D A [(h0, .inr (3, [.ref hr, .ref hp, .ref ha, .ref hf, .int (nI hs), .int (bI ias), .ref ht, .int (nI ln), .int (nI pa), .ref hd])), (hr, .inl (dA 0, 444, .inl (upd (cutR (upd (upd row 5 ((row 5) + (nI 1))) 4 (nI pl)) q (-5) (msVal row n cu pl) cu) 3 (nI (q + 1))))), (hp, .inl (dA 0, 1776, .inl past)), (ha, .inl (dA 0, 444, .inl aside)), (hf, .inl (dA 0, 444, .inl bef)), (ht, .inl (dA 3, 60, .inl txt)), (hd, .inl (dA 0, 8, .inl rd))] := hD
                  refine lv_iload_n hx hb dX3_makeStep_242 rfl (lv_at hl 2 rfl) ?_
                  refine lv_if_ge (tgt := 250) hx hb dX3_makeStep_243 (by decide) (fun h => absurd h (by decide)) (fun _ => ?_)
                  refine lv_iconst (v := nI 1) hx hb dX3_makeStep_246 (by decide) ?_
                  refine lv_goto (tgt := 251) hx hb dX3_makeStep_247 (by decide) ?_
                  rw [show msRow row n cu q bst = upd (cutR (upd (upd row 5 ((row 5) + (nI 1))) 4 (nI pl)) q (-5) (msVal row n cu pl) cu) 3 (nI (q + 1)) from (by simp [msRow, msRes, msPlan, msSolved, msBest, msRow2, mCost, oI_n, oI_s, h_1, h_2, h_3, h_15, h_17, h_19, h_26])]
                  exact x_viret hx hb hrt hlk (by simp [msRow, msRes, msPlan, msSolved, msBest, msRow2, mCost, oI_n, oI_s, h_1, h_2, h_3, h_15, h_17, h_19, h_26]) hP hD hS dX3_makeStep_251 (Nat.le_of_ble_eq_true rfl) (Nat.le_of_ble_eq_true rfl)
          · refine lv_bipush (v := -3) hx hb dX3_makeStep_88 (by decide) ?_
            rw [show msRow row n cu q bst = row from (by simp [msRow, msRes, msPlan, msSolved, msBest, msRow2, mCost, oI_n, oI_s, h_1, h_2, h_3, h_15, eq_true h_17])]
            exact x_viret hx hb hrt hlk (by simp [msRow, msRes, msPlan, msSolved, msBest, msRow2, mCost, oI_n, oI_s, h_1, h_2, h_3, h_15, eq_true h_17]) hP hD hS dX3_makeStep_90 (Nat.le_of_ble_eq_true rfl) (Nat.le_of_ble_eq_true rfl)
        · refine lv_iconst (v := nI 1) hx hb dX3_makeStep_65 (by decide) ?_
          refine lv_goto (tgt := 70) hx hb dX3_makeStep_66 (by decide) ?_
          refine lv_istore (lv' := [(4, .int (nI 1)), (3, .int ((mPrices row n pl) + (mRoutes row n cu pl))), (2, .int (oI (mMissed row n cu pl))), (1, .int (oI (mMaster row n cu q))), (0, .ref h0)]) hx hb dX3_makeStep_70 hl (by decide) rfl (fun ls hl => ?_)
          refine lv_iload hx hb dX3_makeStep_72 (lv_at hl 0 rfl) ?_
          refine lv_if_ne (tgt := 91) hx hb dX3_makeStep_74 (by decide) (fun _ => ?_) (fun h => absurd h (by decide))
          refine lv_aload_n hx hb dX3_makeStep_91 rfl (lv_at hl 4 rfl) ?_
          refine va_get (D := D) (ci := 3) (C := RX3) (T := TX3) (N := 10) hx hb hts in_X3 hown K hP 0 rfl rfl 0 (by decide) (hts _ q1075) (fun _ h9 => h9) rfl dX3_makeStep_92 ?_
          refine lv_iconst (v := nI 5) hx hb dX3_makeStep_95 (by decide) ?_
          refine lv_dup2_11 hx hb dX3_makeStep_96 rfl rfl ?_
          refine x_iald hx hb K hP 1 0 rfl rfl 5 rfl (by omega) (by decide) rfl dX3_makeStep_97 ?_
          refine lv_iconst (v := nI 1) hx hb dX3_makeStep_98 (by decide) ?_
          refine lv_iadd hx hb dX3_makeStep_99 ?_
          refine x_iast hx hb K hP hD hS 1 0 rfl rfl 5 rfl (by omega) (by decide) dX3_makeStep_100 (fun H locs hP hD hS => ?_)
          have hP : va_P D vwCl [(h0, .inr (3, [.ref hr, .ref hp, .ref ha, .ref hf, .int (nI hs), .int (bI ias), .ref ht, .int (nI ln), .int (nI pa), .ref hd])), (hr, .inl (dA 0, 444, .inl (upd row 5 ((row 5) + (nI 1))))), (hp, .inl (dA 0, 1776, .inl past)), (ha, .inl (dA 0, 444, .inl aside)), (hf, .inl (dA 0, 444, .inl bef)), (ht, .inl (dA 3, 60, .inl txt)), (hd, .inl (dA 0, 8, .inl rd))] H := hP
          have hD : va_D A [(h0, .inr (3, [.ref hr, .ref hp, .ref ha, .ref hf, .int (nI hs), .int (bI ias), .ref ht, .int (nI ln), .int (nI pa), .ref hd])), (hr, .inl (dA 0, 444, .inl (upd row 5 ((row 5) + (nI 1))))), (hp, .inl (dA 0, 1776, .inl past)), (ha, .inl (dA 0, 444, .inl aside)), (hf, .inl (dA 0, 444, .inl bef)), (ht, .inl (dA 3, 60, .inl txt)), (hd, .inl (dA 0, 8, .inl rd))] := hD
          refine lv_iload_n hx hb dX3_makeStep_101 rfl (lv_at hl 2 rfl) ?_
          refine x_top (y := -5) (by rw [h_3]; rfl) ?_
          refine lv_if_ge (tgt := 146) hx hb dX3_makeStep_102 (by decide) (fun h => absurd h (by decide)) (fun _ => ?_)
          refine lv_aload_n hx hb dX3_makeStep_105 rfl (lv_at hl 4 rfl) ?_
          refine va_get (D := D) (ci := 3) (C := RX3) (T := TX3) (N := 10) hx hb hts in_X3 hown K hP 0 rfl rfl 0 (by decide) (hts _ q1075) (fun _ h9 => h9) rfl dX3_makeStep_106 ?_
          refine lv_iconst (v := nI 4) hx hb dX3_makeStep_109 (by decide) ?_
          refine x_iald (v := oI bst) hx hb K hP 1 0 rfl rfl 4 rfl (by omega) (by decide) (by rw [pk_un (by omega)]; exact e4) dX3_makeStep_110 ?_
          refine x_ifo_lt (tgt := 139) hx hb dX3_makeStep_111 (by decide) (fun b hb => by have := (hbst b hb).1; omega) (fun h_41 => ?_) (fun bb h_41 => ?_)
          · refine lv_aload_n hx hb dX3_makeStep_139 rfl (lv_at hl 4 rfl) ?_
            refine va_get (D := D) (ci := 3) (C := RX3) (T := TX3) (N := 10) hx hb hts in_X3 hown K hP 0 rfl rfl 0 (by decide) (hts _ q1075) (fun _ h9 => h9) rfl dX3_makeStep_140 ?_
            refine lv_iconst (v := nI 4) hx hb dX3_makeStep_143 (by decide) ?_
            refine lv_iload_n hx hb dX3_makeStep_144 rfl (lv_at hl 3 rfl) ?_
            refine x_top (y := nI pl) (by rw [h_2]; rfl) ?_
            refine x_iast hx hb K hP hD hS 1 0 rfl rfl 4 rfl (by omega) (by decide) dX3_makeStep_145 (fun H locs hP hD hS => ?_)
            have hP : va_P D vwCl [(h0, .inr (3, [.ref hr, .ref hp, .ref ha, .ref hf, .int (nI hs), .int (bI ias), .ref ht, .int (nI ln), .int (nI pa), .ref hd])), (hr, .inl (dA 0, 444, .inl (upd (upd row 5 ((row 5) + (nI 1))) 4 (nI pl)))), (hp, .inl (dA 0, 1776, .inl past)), (ha, .inl (dA 0, 444, .inl aside)), (hf, .inl (dA 0, 444, .inl bef)), (ht, .inl (dA 3, 60, .inl txt)), (hd, .inl (dA 0, 8, .inl rd))] H := hP
            have hD : va_D A [(h0, .inr (3, [.ref hr, .ref hp, .ref ha, .ref hf, .int (nI hs), .int (bI ias), .ref ht, .int (nI ln), .int (nI pa), .ref hd])), (hr, .inl (dA 0, 444, .inl (upd (upd row 5 ((row 5) + (nI 1))) 4 (nI pl)))), (hp, .inl (dA 0, 1776, .inl past)), (ha, .inl (dA 0, 444, .inl aside)), (hf, .inl (dA 0, 444, .inl bef)), (ht, .inl (dA 3, 60, .inl txt)), (hd, .inl (dA 0, 8, .inl rd))] := hD
            refine lv_iload hx hb dX3_makeStep_146 (lv_at hl 0 rfl) ?_
            refine lv_if_eq (tgt := 153) hx hb dX3_makeStep_148 (by decide) (fun h => absurd h (by decide)) (fun _ => ?_)
            refine lv_iconst (v := nI 2) hx hb dX3_makeStep_151 (by decide) ?_
            rw [show msRow row n cu q bst = upd (upd row 5 ((row 5) + (nI 1))) 4 (nI pl) from (by simp [msRow, msRes, msPlan, msSolved, msBest, msRow2, mCost, oI_n, oI_s, h_1, h_2, h_3, eq_true h_15, h_41])]
            exact x_viret hx hb hrt hlk (by simp [msRow, msRes, msPlan, msSolved, msBest, msRow2, mCost, oI_n, oI_s, h_1, h_2, h_3, eq_true h_15, h_41]) hP hD hS dX3_makeStep_152 (Nat.le_of_ble_eq_true rfl) (Nat.le_of_ble_eq_true rfl)
          · obtain ⟨hb2, hms⟩ := hbst _ h_41
            refine lv_iload_n hx hb dX3_makeStep_114 rfl (lv_at hl 1 rfl) ?_
            refine lv_aload_n hx hb dX3_makeStep_115 rfl (lv_at hl 4 rfl) ?_
            refine lv_aload_n hx hb dX3_makeStep_116 rfl (lv_at hl 4 rfl) ?_
            refine va_get (D := D) (ci := 3) (C := RX3) (T := TX3) (N := 10) hx hb hts in_X3 hown K hP 0 rfl rfl 0 (by decide) (hts _ q1075) (fun _ h9 => h9) rfl dX3_makeStep_117 ?_
            refine lv_iconst (v := nI 4) hx hb dX3_makeStep_120 (by decide) ?_
            refine x_iald (v := oI bst) hx hb K hP 1 0 rfl rfl 4 rfl (by omega) (by decide) (by rw [pk_un (by omega)]; exact e4) dX3_makeStep_121 ?_
            refine x_top (y := nI bb) (by rw [h_41]; rfl) ?_
            refine x_ret (va_runV (As := [.int (nI bb)]) (rest := [.int ((mPrices row n pl) + (mRoutes row n cu pl))]) S (mr_prices l D dA h0 hr [.ref hp, .ref ha, .ref hf, .int (nI hs), .int (bI ias), .ref ht, .int (nI ln), .int (nI pa), .ref hd] (upd row 5 ((row 5) + (nI 1))) (mwf_cg w (by simp [upd]) (by simp [upd]) (by simp [upd]) (fun k hk => by first | (rw [pk_un (by omega), pk_un (by omega)]) | (rw [pk_un (by omega)]))) bb (by omega)) (cwV 1 hts (lw_V q1235 q1237 qs42 q69 q1238) rfl rfl rfl hdX3_prices ⟨Nat.le_of_ble_eq_true rfl, Nat.le_of_ble_eq_true rfl⟩) ⟨bb_blind ka_bl _, va_recv K hP (ci := 3) (q0 := 0) rfl rfl, ka_pre K (hP.sub [0, 1] rfl) _⟩ rfl rfl hl.1 rfl (lv_room (Nat.le_of_ble_eq_true rfl)) dX3_makeStep_122 ⟨by omega, by omega⟩) ?_
            refine x_top (y := mPrices row n bb) (agr_prices hag hn) ?_
            refine lv_aload_n hx hb dX3_makeStep_125 rfl (lv_at hl 4 rfl) ?_
            refine lv_aload_n hx hb dX3_makeStep_126 rfl (lv_at hl 4 rfl) ?_
            refine va_get (D := D) (ci := 3) (C := RX3) (T := TX3) (N := 10) hx hb hts in_X3 hown K hP 0 rfl rfl 0 (by decide) (hts _ q1075) (fun _ h9 => h9) rfl dX3_makeStep_127 ?_
            refine lv_iconst (v := nI 4) hx hb dX3_makeStep_130 (by decide) ?_
            refine x_iald (v := oI bst) hx hb K hP 1 0 rfl rfl 4 rfl (by omega) (by decide) (by rw [pk_un (by omega)]; exact e4) dX3_makeStep_131 ?_
            refine x_top (y := nI bb) (by rw [h_41]; rfl) ?_
            refine x_ret (va_runV (As := [.int (nI bb)]) (rest := [.int (mPrices row n bb), .int ((mPrices row n pl) + (mRoutes row n cu pl))]) S (mr_routes l D dA h0 hr [.ref hp, .ref ha, .ref hf, .int (nI hs), .int (bI ias), .ref ht, .int (nI ln), .int (nI pa), .ref hd] (upd row 5 ((row 5) + (nI 1))) (mwf_cg w (by simp [upd]) (by simp [upd]) (by simp [upd]) (fun k hk => by first | (rw [pk_un (by omega), pk_un (by omega)]) | (rw [pk_un (by omega)]))) bb (by omega) (fun c hc => by rw [agr_server hag hn (by omega)]; exact miss_none hms c hc)) (cwV 1 hts (lw_V q1243 q1245 qs44 q69 q1246) rfl rfl rfl hdX3_routes ⟨Nat.le_of_ble_eq_true rfl, Nat.le_of_ble_eq_true rfl⟩) ⟨bb_blind ka_bl _, va_recv K hP (ci := 3) (q0 := 0) rfl rfl, ka_pre K (hP.sub [0, 1] rfl) _⟩ rfl rfl hl.1 rfl (lv_room (Nat.le_of_ble_eq_true rfl)) dX3_makeStep_132 ⟨by omega, by omega⟩) ?_
            refine x_top (y := mRoutes row n cu bb) (agr_routes hag hn hcu) ?_
            refine lv_iadd hx hb dX3_makeStep_135 ?_
            refine lv_icmp_ge (tgt := 146) hx hb dX3_makeStep_136 (by decide) (fun h_43 => ?_) (fun h_43 => ?_)
            · refine lv_iload hx hb dX3_makeStep_146 (lv_at hl 0 rfl) ?_
              refine lv_if_eq (tgt := 153) hx hb dX3_makeStep_148 (by decide) (fun h => absurd h (by decide)) (fun _ => ?_)
              refine lv_iconst (v := nI 2) hx hb dX3_makeStep_151 (by decide) ?_
              rw [show msRow row n cu q bst = upd row 5 ((row 5) + (nI 1)) from (by simp [msRow, msRes, msPlan, msSolved, msBest, msRow2, mCost, oI_n, oI_s, h_1, h_2, h_3, eq_true h_15, h_41, h_43])]
              exact x_viret hx hb hrt hlk (by simp [msRow, msRes, msPlan, msSolved, msBest, msRow2, mCost, oI_n, oI_s, h_1, h_2, h_3, eq_true h_15, h_41, h_43]) hP hD hS dX3_makeStep_152 (Nat.le_of_ble_eq_true rfl) (Nat.le_of_ble_eq_true rfl)
            · refine lv_aload_n hx hb dX3_makeStep_139 rfl (lv_at hl 4 rfl) ?_
              refine va_get (D := D) (ci := 3) (C := RX3) (T := TX3) (N := 10) hx hb hts in_X3 hown K hP 0 rfl rfl 0 (by decide) (hts _ q1075) (fun _ h9 => h9) rfl dX3_makeStep_140 ?_
              refine lv_iconst (v := nI 4) hx hb dX3_makeStep_143 (by decide) ?_
              refine lv_iload_n hx hb dX3_makeStep_144 rfl (lv_at hl 3 rfl) ?_
              refine x_top (y := nI pl) (by rw [h_2]; rfl) ?_
              refine x_iast hx hb K hP hD hS 1 0 rfl rfl 4 rfl (by omega) (by decide) dX3_makeStep_145 (fun H locs hP hD hS => ?_)
              have hP : va_P D vwCl [(h0, .inr (3, [.ref hr, .ref hp, .ref ha, .ref hf, .int (nI hs), .int (bI ias), .ref ht, .int (nI ln), .int (nI pa), .ref hd])), (hr, .inl (dA 0, 444, .inl (upd (upd row 5 ((row 5) + (nI 1))) 4 (nI pl)))), (hp, .inl (dA 0, 1776, .inl past)), (ha, .inl (dA 0, 444, .inl aside)), (hf, .inl (dA 0, 444, .inl bef)), (ht, .inl (dA 3, 60, .inl txt)), (hd, .inl (dA 0, 8, .inl rd))] H := hP
              have hD : va_D A [(h0, .inr (3, [.ref hr, .ref hp, .ref ha, .ref hf, .int (nI hs), .int (bI ias), .ref ht, .int (nI ln), .int (nI pa), .ref hd])), (hr, .inl (dA 0, 444, .inl (upd (upd row 5 ((row 5) + (nI 1))) 4 (nI pl)))), (hp, .inl (dA 0, 1776, .inl past)), (ha, .inl (dA 0, 444, .inl aside)), (hf, .inl (dA 0, 444, .inl bef)), (ht, .inl (dA 3, 60, .inl txt)), (hd, .inl (dA 0, 8, .inl rd))] := hD
              refine lv_iload hx hb dX3_makeStep_146 (lv_at hl 0 rfl) ?_
              refine lv_if_eq (tgt := 153) hx hb dX3_makeStep_148 (by decide) (fun h => absurd h (by decide)) (fun _ => ?_)
              refine lv_iconst (v := nI 2) hx hb dX3_makeStep_151 (by decide) ?_
              rw [show msRow row n cu q bst = upd (upd row 5 ((row 5) + (nI 1))) 4 (nI pl) from (by simp [msRow, msRes, msPlan, msSolved, msBest, msRow2, mCost, oI_n, oI_s, h_1, h_2, h_3, eq_true h_15, h_41, h_43])]
              exact x_viret hx hb hrt hlk (by simp [msRow, msRes, msPlan, msSolved, msBest, msRow2, mCost, oI_n, oI_s, h_1, h_2, h_3, eq_true h_15, h_41, h_43]) hP hD hS dX3_makeStep_152 (Nat.le_of_ble_eq_true rfl) (Nat.le_of_ble_eq_true rfl)
    · refine lv_bipush (v := -4) hx hb dX3_makeStep_23 (by decide) ?_
      rw [show msRow row n cu q bst = row from (by simp [msRow, msRes, msPlan, msSolved, msBest, msRow2, mCost, oI_n, oI_s, h_1, h_2])]
      exact x_viret hx hb hrt hlk (by simp [msRow, msRes, msPlan, msSolved, msBest, msRow2, mCost, oI_n, oI_s, h_1, h_2]) hP hD hS dX3_makeStep_25 (Nat.le_of_ble_eq_true rfl) (Nat.le_of_ble_eq_true rfl)
  · refine lv_bipush (v := -5) hx hb dX3_makeStep_9 (by decide) ?_
    refine lv_goto (tgt := 18) hx hb dX3_makeStep_11 (by decide) ?_
    refine lv_istore_n (lv' := [(1, .int (-5)), (0, .ref h0)]) hx hb dX3_makeStep_18 rfl hl (by decide) rfl (fun ls hl => ?_)
    refine lv_iload_n hx hb dX3_makeStep_19 rfl (lv_at hl 0 rfl) ?_
    refine lv_if_ge (tgt := 26) hx hb dX3_makeStep_20 (by decide) (fun h => absurd h (by decide)) (fun _ => ?_)
    refine lv_bipush (v := -4) hx hb dX3_makeStep_23 (by decide) ?_
    rw [show msRow row n cu q bst = row from (by simp [msRow, msRes, msPlan, msSolved, msBest, msRow2, mCost, oI_n, oI_s, h_1])]
    exact x_viret hx hb hrt hlk (by simp [msRow, msRes, msPlan, msSolved, msBest, msRow2, mCost, oI_n, oI_s, h_1]) hP hD hS dX3_makeStep_25 (Nat.le_of_ble_eq_true rfl) (Nat.le_of_ble_eq_true rfl)

