theorem hdX3_init : yX3_init.cls = RX3 ∧ yX3_init.cls ≠ "java/lang/invoke/MethodHandle" ∧ yX3_init.cls ≠ "java/lang/invoke/VarHandle" ∧ (parseMethodDescriptor yX3_init.desc).map (fun d => d.parameters.length) = some 0 := by decide +kernel
theorem hdX3_undo : yX3_undo.cls = RX3 ∧ yX3_undo.cls ≠ "java/lang/invoke/MethodHandle" ∧ yX3_undo.cls ≠ "java/lang/invoke/VarHandle" ∧ (parseMethodDescriptor yX3_undo.desc).map (fun d => d.parameters.length) = some 0 := by decide +kernel
theorem hdX3_keep : yX3_keep.cls = RX3 ∧ yX3_keep.cls ≠ "java/lang/invoke/MethodHandle" ∧ yX3_keep.cls ≠ "java/lang/invoke/VarHandle" ∧ (parseMethodDescriptor yX3_keep.desc).map (fun d => d.parameters.length) = some 0 := by decide +kernel
theorem hdX3_restore : yX3_restore.cls = RX3 ∧ yX3_restore.cls ≠ "java/lang/invoke/MethodHandle" ∧ yX3_restore.cls ≠ "java/lang/invoke/VarHandle" ∧ (parseMethodDescriptor yX3_restore.desc).map (fun d => d.parameters.length) = some 0 := by decide +kernel
theorem hdX3_begin : yX3_begin.cls = RX3 ∧ yX3_begin.cls ≠ "java/lang/invoke/MethodHandle" ∧ yX3_begin.cls ≠ "java/lang/invoke/VarHandle" ∧ (parseMethodDescriptor yX3_begin.desc).map (fun d => d.parameters.length) = some 0 := by decide +kernel
theorem hdX3_remember : yX3_remember.cls = RX3 ∧ yX3_remember.cls ≠ "java/lang/invoke/MethodHandle" ∧ yX3_remember.cls ≠ "java/lang/invoke/VarHandle" ∧ (parseMethodDescriptor yX3_remember.desc).map (fun d => d.parameters.length) = some 0 := by decide +kernel
theorem hdX3_record : yX3_record.cls = RX3 ∧ yX3_record.cls ≠ "java/lang/invoke/MethodHandle" ∧ yX3_record.cls ≠ "java/lang/invoke/VarHandle" ∧ (parseMethodDescriptor yX3_record.desc).map (fun d => d.parameters.length) = some 0 := by decide +kernel
theorem hdX3_addSite : yX3_addSite.cls = RX3 ∧ yX3_addSite.cls ≠ "java/lang/invoke/MethodHandle" ∧ yX3_addSite.cls ≠ "java/lang/invoke/VarHandle" ∧ (parseMethodDescriptor yX3_addSite.desc).map (fun d => d.parameters.length) = some 1 := by decide +kernel
theorem hdX3_in : yX3_in.cls ≠ "java/lang/invoke/MethodHandle" ∧ yX3_in.cls ≠ "java/lang/invoke/VarHandle" ∧ (parseMethodDescriptor yX3_in.desc).map (fun d => d.parameters.length) = some 3 := by decide +kernel
theorem hdX3_dropAll : yX3_dropAll.cls = RX3 ∧ yX3_dropAll.cls ≠ "java/lang/invoke/MethodHandle" ∧ yX3_dropAll.cls ≠ "java/lang/invoke/VarHandle" ∧ (parseMethodDescriptor yX3_dropAll.desc).map (fun d => d.parameters.length) = some 0 := by decide +kernel
theorem hdX3_addCustomer : yX3_addCustomer.cls = RX3 ∧ yX3_addCustomer.cls ≠ "java/lang/invoke/MethodHandle" ∧ yX3_addCustomer.cls ≠ "java/lang/invoke/VarHandle" ∧ (parseMethodDescriptor yX3_addCustomer.desc).map (fun d => d.parameters.length) = some 1 := by decide +kernel
theorem hdX3_setPrice : yX3_setPrice.cls = RX3 ∧ yX3_setPrice.cls ≠ "java/lang/invoke/MethodHandle" ∧ yX3_setPrice.cls ≠ "java/lang/invoke/VarHandle" ∧ (parseMethodDescriptor yX3_setPrice.desc).map (fun d => d.parameters.length) = some 2 := by decide +kernel
theorem hdX3_noSite : yX3_noSite.cls = RX3 ∧ yX3_noSite.cls ≠ "java/lang/invoke/MethodHandle" ∧ yX3_noSite.cls ≠ "java/lang/invoke/VarHandle" ∧ (parseMethodDescriptor yX3_noSite.desc).map (fun d => d.parameters.length) = some 1 := by decide +kernel
theorem hdX3_change : yX3_change.cls = RX3 ∧ yX3_change.cls ≠ "java/lang/invoke/MethodHandle" ∧ yX3_change.cls ≠ "java/lang/invoke/VarHandle" ∧ (parseMethodDescriptor yX3_change.desc).map (fun d => d.parameters.length) = some 2 := by decide +kernel
theorem hdX3_setDemand : yX3_setDemand.cls = RX3 ∧ yX3_setDemand.cls ≠ "java/lang/invoke/MethodHandle" ∧ yX3_setDemand.cls ≠ "java/lang/invoke/VarHandle" ∧ (parseMethodDescriptor yX3_setDemand.desc).map (fun d => d.parameters.length) = some 2 := by decide +kernel
theorem hdX3_noCustomer : yX3_noCustomer.cls = RX3 ∧ yX3_noCustomer.cls ≠ "java/lang/invoke/MethodHandle" ∧ yX3_noCustomer.cls ≠ "java/lang/invoke/VarHandle" ∧ (parseMethodDescriptor yX3_noCustomer.desc).map (fun d => d.parameters.length) = some 1 := by decide +kernel
theorem hdX3_setRoute : yX3_setRoute.cls = RX3 ∧ yX3_setRoute.cls ≠ "java/lang/invoke/MethodHandle" ∧ yX3_setRoute.cls ≠ "java/lang/invoke/VarHandle" ∧ (parseMethodDescriptor yX3_setRoute.desc).map (fun d => d.parameters.length) = some 3 := by decide +kernel
theorem hdX3_route : yX3_route.cls ≠ "java/lang/invoke/MethodHandle" ∧ yX3_route.cls ≠ "java/lang/invoke/VarHandle" ∧ (parseMethodDescriptor yX3_route.desc).map (fun d => d.parameters.length) = some 2 := by decide +kernel
theorem hdX3_setMost : yX3_setMost.cls = RX3 ∧ yX3_setMost.cls ≠ "java/lang/invoke/MethodHandle" ∧ yX3_setMost.cls ≠ "java/lang/invoke/VarHandle" ∧ (parseMethodDescriptor yX3_setMost.desc).map (fun d => d.parameters.length) = some 1 := by decide +kernel
theorem hdX3_exclude : yX3_exclude.cls = RX3 ∧ yX3_exclude.cls ≠ "java/lang/invoke/MethodHandle" ∧ yX3_exclude.cls ≠ "java/lang/invoke/VarHandle" ∧ (parseMethodDescriptor yX3_exclude.desc).map (fun d => d.parameters.length) = some 3 := by decide +kernel
theorem hdX3_isIn : yX3_isIn.cls ≠ "java/lang/invoke/MethodHandle" ∧ yX3_isIn.cls ≠ "java/lang/invoke/VarHandle" ∧ (parseMethodDescriptor yX3_isIn.desc).map (fun d => d.parameters.length) = some 2 := by decide +kernel
theorem hdX3_many : yX3_many.cls ≠ "java/lang/invoke/MethodHandle" ∧ yX3_many.cls ≠ "java/lang/invoke/VarHandle" ∧ (parseMethodDescriptor yX3_many.desc).map (fun d => d.parameters.length) = some 1 := by decide +kernel
theorem hdX3_step : yX3_step.cls = RX3 ∧ yX3_step.cls ≠ "java/lang/invoke/MethodHandle" ∧ yX3_step.cls ≠ "java/lang/invoke/VarHandle" ∧ (parseMethodDescriptor yX3_step.desc).map (fun d => d.parameters.length) = some 0 := by decide +kernel
theorem hdX3_makeStep : yX3_makeStep.cls = RX3 ∧ yX3_makeStep.cls ≠ "java/lang/invoke/MethodHandle" ∧ yX3_makeStep.cls ≠ "java/lang/invoke/VarHandle" ∧ (parseMethodDescriptor yX3_makeStep.desc).map (fun d => d.parameters.length) = some 0 := by decide +kernel
theorem hdX3_masterPlan : yX3_masterPlan.cls = RX3 ∧ yX3_masterPlan.cls ≠ "java/lang/invoke/MethodHandle" ∧ yX3_masterPlan.cls ≠ "java/lang/invoke/VarHandle" ∧ (parseMethodDescriptor yX3_masterPlan.desc).map (fun d => d.parameters.length) = some 0 := by decide +kernel
theorem hdX3_isAllowed : yX3_isAllowed.cls = RX3 ∧ yX3_isAllowed.cls ≠ "java/lang/invoke/MethodHandle" ∧ yX3_isAllowed.cls ≠ "java/lang/invoke/VarHandle" ∧ (parseMethodDescriptor yX3_isAllowed.desc).map (fun d => d.parameters.length) = some 1 := by decide +kernel
theorem hdX3_excludes : yX3_excludes.cls = RX3 ∧ yX3_excludes.cls ≠ "java/lang/invoke/MethodHandle" ∧ yX3_excludes.cls ≠ "java/lang/invoke/VarHandle" ∧ (parseMethodDescriptor yX3_excludes.desc).map (fun d => d.parameters.length) = some 1 := by decide +kernel
theorem hdX3_raysMissed : yX3_raysMissed.cls = RX3 ∧ yX3_raysMissed.cls ≠ "java/lang/invoke/MethodHandle" ∧ yX3_raysMissed.cls ≠ "java/lang/invoke/VarHandle" ∧ (parseMethodDescriptor yX3_raysMissed.desc).map (fun d => d.parameters.length) = some 1 := by decide +kernel
theorem hdX3_isRay : yX3_isRay.cls = RX3 ∧ yX3_isRay.cls ≠ "java/lang/invoke/MethodHandle" ∧ yX3_isRay.cls ≠ "java/lang/invoke/VarHandle" ∧ (parseMethodDescriptor yX3_isRay.desc).map (fun d => d.parameters.length) = some 1 := by decide +kernel
theorem hdX3_asked : yX3_asked.cls = RX3 ∧ yX3_asked.cls ≠ "java/lang/invoke/MethodHandle" ∧ yX3_asked.cls ≠ "java/lang/invoke/VarHandle" ∧ (parseMethodDescriptor yX3_asked.desc).map (fun d => d.parameters.length) = some 2 := by decide +kernel
theorem hdX3_reachedFrom : yX3_reachedFrom.cls = RX3 ∧ yX3_reachedFrom.cls ≠ "java/lang/invoke/MethodHandle" ∧ yX3_reachedFrom.cls ≠ "java/lang/invoke/VarHandle" ∧ (parseMethodDescriptor yX3_reachedFrom.desc).map (fun d => d.parameters.length) = some 1 := by decide +kernel
theorem hdX3_guess : yX3_guess.cls = RX3 ∧ yX3_guess.cls ≠ "java/lang/invoke/MethodHandle" ∧ yX3_guess.cls ≠ "java/lang/invoke/VarHandle" ∧ (parseMethodDescriptor yX3_guess.desc).map (fun d => d.parameters.length) = some 1 := by decide +kernel
theorem hdX3_valueOf : yX3_valueOf.cls = RX3 ∧ yX3_valueOf.cls ≠ "java/lang/invoke/MethodHandle" ∧ yX3_valueOf.cls ≠ "java/lang/invoke/VarHandle" ∧ (parseMethodDescriptor yX3_valueOf.desc).map (fun d => d.parameters.length) = some 2 := by decide +kernel
theorem hdX3_weightOf : yX3_weightOf.cls = RX3 ∧ yX3_weightOf.cls ≠ "java/lang/invoke/MethodHandle" ∧ yX3_weightOf.cls ≠ "java/lang/invoke/VarHandle" ∧ (parseMethodDescriptor yX3_weightOf.desc).map (fun d => d.parameters.length) = some 2 := by decide +kernel
theorem hdX3_prices : yX3_prices.cls = RX3 ∧ yX3_prices.cls ≠ "java/lang/invoke/MethodHandle" ∧ yX3_prices.cls ≠ "java/lang/invoke/VarHandle" ∧ (parseMethodDescriptor yX3_prices.desc).map (fun d => d.parameters.length) = some 1 := by decide +kernel
theorem hdX3_missed : yX3_missed.cls = RX3 ∧ yX3_missed.cls ≠ "java/lang/invoke/MethodHandle" ∧ yX3_missed.cls ≠ "java/lang/invoke/VarHandle" ∧ (parseMethodDescriptor yX3_missed.desc).map (fun d => d.parameters.length) = some 1 := by decide +kernel
theorem hdX3_routes : yX3_routes.cls = RX3 ∧ yX3_routes.cls ≠ "java/lang/invoke/MethodHandle" ∧ yX3_routes.cls ≠ "java/lang/invoke/VarHandle" ∧ (parseMethodDescriptor yX3_routes.desc).map (fun d => d.parameters.length) = some 1 := by decide +kernel
theorem hdX3_server : yX3_server.cls = RX3 ∧ yX3_server.cls ≠ "java/lang/invoke/MethodHandle" ∧ yX3_server.cls ≠ "java/lang/invoke/VarHandle" ∧ (parseMethodDescriptor yX3_server.desc).map (fun d => d.parameters.length) = some 2 := by decide +kernel
theorem hdX3_solve : yX3_solve.cls = RX3 ∧ yX3_solve.cls ≠ "java/lang/invoke/MethodHandle" ∧ yX3_solve.cls ≠ "java/lang/invoke/VarHandle" ∧ (parseMethodDescriptor yX3_solve.desc).map (fun d => d.parameters.length) = some 0 := by decide +kernel
theorem hdX3_goBack : yX3_goBack.cls = RX3 ∧ yX3_goBack.cls ≠ "java/lang/invoke/MethodHandle" ∧ yX3_goBack.cls ≠ "java/lang/invoke/VarHandle" ∧ (parseMethodDescriptor yX3_goBack.desc).map (fun d => d.parameters.length) = some 0 := by decide +kernel
theorem hdX3_drop : yX3_drop.cls = RX3 ∧ yX3_drop.cls ≠ "java/lang/invoke/MethodHandle" ∧ yX3_drop.cls ≠ "java/lang/invoke/VarHandle" ∧ (parseMethodDescriptor yX3_drop.desc).map (fun d => d.parameters.length) = some 1 := by decide +kernel
theorem hdX3_noCut : yX3_noCut.cls = RX3 ∧ yX3_noCut.cls ≠ "java/lang/invoke/MethodHandle" ∧ yX3_noCut.cls ≠ "java/lang/invoke/VarHandle" ∧ (parseMethodDescriptor yX3_noCut.desc).map (fun d => d.parameters.length) = some 1 := by decide +kernel
theorem hdX3_dropOne : yX3_dropOne.cls = RX3 ∧ yX3_dropOne.cls ≠ "java/lang/invoke/MethodHandle" ∧ yX3_dropOne.cls ≠ "java/lang/invoke/VarHandle" ∧ (parseMethodDescriptor yX3_dropOne.desc).map (fun d => d.parameters.length) = some 1 := by decide +kernel
theorem hdX3_dropLoose : yX3_dropLoose.cls = RX3 ∧ yX3_dropLoose.cls ≠ "java/lang/invoke/MethodHandle" ∧ yX3_dropLoose.cls ≠ "java/lang/invoke/VarHandle" ∧ (parseMethodDescriptor yX3_dropLoose.desc).map (fun d => d.parameters.length) = some 0 := by decide +kernel
theorem hdX3_isLoose : yX3_isLoose.cls = RX3 ∧ yX3_isLoose.cls ≠ "java/lang/invoke/MethodHandle" ∧ yX3_isLoose.cls ≠ "java/lang/invoke/VarHandle" ∧ (parseMethodDescriptor yX3_isLoose.desc).map (fun d => d.parameters.length) = some 3 := by decide +kernel
theorem hdX3_type : yX3_type.cls = RX3 ∧ yX3_type.cls ≠ "java/lang/invoke/MethodHandle" ∧ yX3_type.cls ≠ "java/lang/invoke/VarHandle" ∧ (parseMethodDescriptor yX3_type.desc).map (fun d => d.parameters.length) = some 1 := by decide +kernel
theorem hdX3_clearText : yX3_clearText.cls = RX3 ∧ yX3_clearText.cls ≠ "java/lang/invoke/MethodHandle" ∧ yX3_clearText.cls ≠ "java/lang/invoke/VarHandle" ∧ (parseMethodDescriptor yX3_clearText.desc).map (fun d => d.parameters.length) = some 0 := by decide +kernel
theorem hdX3_readCut : yX3_readCut.cls = RX3 ∧ yX3_readCut.cls ≠ "java/lang/invoke/MethodHandle" ∧ yX3_readCut.cls ≠ "java/lang/invoke/VarHandle" ∧ (parseMethodDescriptor yX3_readCut.desc).map (fun d => d.parameters.length) = some 0 := by decide +kernel
theorem hdX3_readNumbers : yX3_readNumbers.cls = RX3 ∧ yX3_readNumbers.cls ≠ "java/lang/invoke/MethodHandle" ∧ yX3_readNumbers.cls ≠ "java/lang/invoke/VarHandle" ∧ (parseMethodDescriptor yX3_readNumbers.desc).map (fun d => d.parameters.length) = some 0 := by decide +kernel
theorem hdX3_sees : yX3_sees.cls = RX3 ∧ yX3_sees.cls ≠ "java/lang/invoke/MethodHandle" ∧ yX3_sees.cls ≠ "java/lang/invoke/VarHandle" ∧ (parseMethodDescriptor yX3_sees.desc).map (fun d => d.parameters.length) = some 2 := by decide +kernel
theorem hdX3_judge : yX3_judge.cls = RX3 ∧ yX3_judge.cls ≠ "java/lang/invoke/MethodHandle" ∧ yX3_judge.cls ≠ "java/lang/invoke/VarHandle" ∧ (parseMethodDescriptor yX3_judge.desc).map (fun d => d.parameters.length) = some 1 := by decide +kernel
theorem hdX3_noPlan : yX3_noPlan.cls = RX3 ∧ yX3_noPlan.cls ≠ "java/lang/invoke/MethodHandle" ∧ yX3_noPlan.cls ≠ "java/lang/invoke/VarHandle" ∧ (parseMethodDescriptor yX3_noPlan.desc).map (fun d => d.parameters.length) = some 1 := by decide +kernel
theorem hdX3_plan : yX3_plan.cls = RX3 ∧ yX3_plan.cls ≠ "java/lang/invoke/MethodHandle" ∧ yX3_plan.cls ≠ "java/lang/invoke/VarHandle" ∧ (parseMethodDescriptor yX3_plan.desc).map (fun d => d.parameters.length) = some 2 := by decide +kernel
theorem hdX3_serves : yX3_serves.cls = RX3 ∧ yX3_serves.cls ≠ "java/lang/invoke/MethodHandle" ∧ yX3_serves.cls ≠ "java/lang/invoke/VarHandle" ∧ (parseMethodDescriptor yX3_serves.desc).map (fun d => d.parameters.length) = some 2 := by decide +kernel
theorem hdX3_cut : yX3_cut.cls = RX3 ∧ yX3_cut.cls ≠ "java/lang/invoke/MethodHandle" ∧ yX3_cut.cls ≠ "java/lang/invoke/VarHandle" ∧ (parseMethodDescriptor yX3_cut.desc).map (fun d => d.parameters.length) = some 2 := by decide +kernel
theorem hdX3_plansBy : yX3_plansBy.cls = RX3 ∧ yX3_plansBy.cls ≠ "java/lang/invoke/MethodHandle" ∧ yX3_plansBy.cls ≠ "java/lang/invoke/VarHandle" ∧ (parseMethodDescriptor yX3_plansBy.desc).map (fun d => d.parameters.length) = some 2 := by decide +kernel
theorem hdX3_isFeasible : yX3_isFeasible.cls = RX3 ∧ yX3_isFeasible.cls ≠ "java/lang/invoke/MethodHandle" ∧ yX3_isFeasible.cls ≠ "java/lang/invoke/VarHandle" ∧ (parseMethodDescriptor yX3_isFeasible.desc).map (fun d => d.parameters.length) = some 1 := by decide +kernel
theorem hdX3_weight : yX3_weight.cls = RX3 ∧ yX3_weight.cls ≠ "java/lang/invoke/MethodHandle" ∧ yX3_weight.cls ≠ "java/lang/invoke/VarHandle" ∧ (parseMethodDescriptor yX3_weight.desc).map (fun d => d.parameters.length) = some 2 := by decide +kernel
theorem hdX3_value : yX3_value.cls = RX3 ∧ yX3_value.cls ≠ "java/lang/invoke/MethodHandle" ∧ yX3_value.cls ≠ "java/lang/invoke/VarHandle" ∧ (parseMethodDescriptor yX3_value.desc).map (fun d => d.parameters.length) = some 2 := by decide +kernel
theorem hdX3_master : yX3_master.cls = RX3 ∧ yX3_master.cls ≠ "java/lang/invoke/MethodHandle" ∧ yX3_master.cls ≠ "java/lang/invoke/VarHandle" ∧ (parseMethodDescriptor yX3_master.desc).map (fun d => d.parameters.length) = some 1 := by decide +kernel
theorem hdX3_byAll : yX3_byAll.cls = RX3 ∧ yX3_byAll.cls ≠ "java/lang/invoke/MethodHandle" ∧ yX3_byAll.cls ≠ "java/lang/invoke/VarHandle" ∧ (parseMethodDescriptor yX3_byAll.desc).map (fun d => d.parameters.length) = some 1 := by decide +kernel
theorem hdX3_count : yX3_count.cls = RX3 ∧ yX3_count.cls ≠ "java/lang/invoke/MethodHandle" ∧ yX3_count.cls ≠ "java/lang/invoke/VarHandle" ∧ (parseMethodDescriptor yX3_count.desc).map (fun d => d.parameters.length) = some 1 := by decide +kernel
theorem hdX3_allRoutes : yX3_allRoutes.cls = RX3 ∧ yX3_allRoutes.cls ≠ "java/lang/invoke/MethodHandle" ∧ yX3_allRoutes.cls ≠ "java/lang/invoke/VarHandle" ∧ (parseMethodDescriptor yX3_allRoutes.desc).map (fun d => d.parameters.length) = some 0 := by decide +kernel
theorem hdX3_pairs : yX3_pairs.cls = RX3 ∧ yX3_pairs.cls ≠ "java/lang/invoke/MethodHandle" ∧ yX3_pairs.cls ≠ "java/lang/invoke/VarHandle" ∧ (parseMethodDescriptor yX3_pairs.desc).map (fun d => d.parameters.length) = some 0 := by decide +kernel
theorem hdX3_rays : yX3_rays.cls = RX3 ∧ yX3_rays.cls ≠ "java/lang/invoke/MethodHandle" ∧ yX3_rays.cls ≠ "java/lang/invoke/VarHandle" ∧ (parseMethodDescriptor yX3_rays.desc).map (fun d => d.parameters.length) = some 0 := by decide +kernel

set_option maxHeartbeats 4000000 in
theorem mr_in (l : Launch) (v lo hi : Int32) : RO l yX3_in cX3_in 3 (some .boolean) 0 0 [.int v, .int lo, .int hi] (fun _ => True) (fun _ => True) (some (.int (bI (mIn v lo hi)))) := by
  refine ro_of (by decide) (Nat.le_of_ble_eq_true rfl) ?_
  intro p e s m below meth c S hrt hlk K hP ls hl
  obtain ⟨hx, hb, hml, hown, hts⟩ := id S
  have hl : lv_has ls 3 [(0, .int v), (1, .int lo), (2, .int hi)] := hl
  refine lv_iload_n hx hb dX3_in_0 rfl (lv_at hl 0 rfl) ?_
  refine lv_iload_n hx hb dX3_in_1 rfl (lv_at hl 1 rfl) ?_
  refine lv_icmp_lt (tgt := 14) hx hb dX3_in_2 (by decide) (fun h_1 => ?_) (fun h_1 => ?_)
  · refine lv_iconst (v := nI 0) hx hb dX3_in_14 (by decide) ?_
    exact x_zret hx hb hrt hlk (by simp [mIn, bI, nI_0, nI_1l, h_1]) dX3_in_15
  · refine lv_iload_n hx hb dX3_in_5 rfl (lv_at hl 0 rfl) ?_
    refine lv_iload_n hx hb dX3_in_6 rfl (lv_at hl 2 rfl) ?_
    refine lv_icmp_gt (tgt := 14) hx hb dX3_in_7 (by decide) (fun h_2 => ?_) (fun h_2 => ?_)
    · refine lv_iconst (v := nI 0) hx hb dX3_in_14 (by decide) ?_
      exact x_zret hx hb hrt hlk (by simp [mIn, bI, nI_0, nI_1l, h_1, h_2]) dX3_in_15
    · refine lv_iconst (v := nI 1) hx hb dX3_in_10 (by decide) ?_
      refine lv_goto (tgt := 15) hx hb dX3_in_11 (by decide) ?_
      exact x_zret hx hb hrt hlk (by simp [mIn, bI, nI_0, nI_1l, h_1, h_2]) dX3_in_15

set_option maxHeartbeats 4000000 in
theorem mr_isIn (l : Launch) (x k : Nat) (hx0 : x < 2 ^ 31) (hk : k < 32) : RO l yX3_isIn cX3_isIn 2 (some .boolean) 0 0 [.int (nI x), .int (nI k)] (fun _ => True) (fun _ => True) (some (.int (bI (x.testBit k)))) := by
  refine ro_of (by decide) (Nat.le_of_ble_eq_true rfl) ?_
  intro p e s m below meth c S hrt hlk K hP ls hl
  obtain ⟨hx, hb, hml, hown, hts⟩ := id S
  have hl : lv_has ls 2 [(0, .int (nI x)), (1, .int (nI k))] := hl
  refine lv_iload_n hx hb dX3_isIn_0 rfl (lv_at hl 0 rfl) ?_
  refine lv_iload_n hx hb dX3_isIn_1 rfl (lv_at hl 1 rfl) ?_
  refine lv_ishr hx hb dX3_isIn_2 ?_
  refine lv_iconst (v := nI 1) hx hb dX3_isIn_3 (by decide) ?_
  refine lv_iand hx hb dX3_isIn_4 ?_
  refine x_top (y := nI (x / 2 ^ k % 2)) (nx_bit hx0 hk) ?_
  refine lv_iconst (v := nI 1) hx hb dX3_isIn_5 (by decide) ?_
  refine lv_icmp_ne (tgt := 13) hx hb dX3_isIn_6 (by decide) (fun h_1 => ?_) (fun h_1 => ?_)
  · refine lv_iconst (v := nI 0) hx hb dX3_isIn_13 (by decide) ?_
    exact x_zret hx hb hrt hlk (bit_f h_1) dX3_isIn_14
  · refine lv_iconst (v := nI 1) hx hb dX3_isIn_9 (by decide) ?_
    refine lv_goto (tgt := 14) hx hb dX3_isIn_10 (by decide) ?_
    exact x_zret hx hb hrt hlk (bit_t h_1) dX3_isIn_14

set_option maxHeartbeats 4000000 in
theorem mr_many (l : Launch) (x : Nat) (hx0 : x < 2 ^ 31) : RO l yX3_many cX3_many 3 (some .int) 0 0 [.int (nI x)] (fun _ => True) (fun _ => True) (some (.int (nI (mMany x)))) := by
  refine ro_of (by decide) (Nat.le_of_ble_eq_true rfl) ?_
  intro p e s m below meth c S hrt hlk K hP ls hl
  obtain ⟨hx, hb, hml, hown, hts⟩ := id S
  have hl : lv_has ls 3 [(0, .int (nI x))] := hl
  refine lv_iconst (v := nI 0) hx hb dX3_many_0 (by decide) ?_
  refine lv_istore_n (lv' := [(1, .int (nI 0)), (0, .int (nI x))]) hx hb dX3_many_1 rfl hl (by decide) rfl (fun ls hl => ?_)
  refine lv_iconst (v := nI 0) hx hb dX3_many_2 (by decide) ?_
  refine lv_istore_n (lv' := [(2, .int (nI 0)), (1, .int (nI 0)), (0, .int (nI x))]) hx hb dX3_many_3 rfl hl (by decide) rfl (fun ls hl => ?_)
  refine lpI (fun k a => a + x / 2 ^ k % 2) 0 7 (fun k a ls => lv_has ls 3 [(0, .int (nI x)), (1, .int (nI a)), (2, .int (nI k))]) (fun ls => W p l e (rmR 0 0) s m ([.int (nI x)]).toArray below meth c s.heap [] 0 0 (MQ below (QRet (some (.int (nI (mMany x))))) ([.int (nI x)]).toArray s 0 0 (fun _ => False)) (F0 m 4 ls [])) ?_ ?_ ls (lv_sub hl [2, 1, 0] rfl)
  · intro k ls hk_1 hl ih
    generalize iter (fun k a => a + x / 2 ^ k % 2) k 0 0 = a at *
    have hl : lv_has ls 3 [(0, .int (nI x)), (1, .int (nI a)), (2, .int (nI k))] := hl
    show W p l e (rmR 0 0) s m ([.int (nI x)]).toArray below meth c s.heap [] 0 0 (MQ below (QRet (some (.int (nI (mMany x))))) ([.int (nI x)]).toArray s 0 0 (fun _ => False)) (F0 m 4 ls [])
    refine lv_iload_n hx hb dX3_many_4 rfl (lv_at hl 2 rfl) ?_
    refine lv_bipush (v := nI 7) hx hb dX3_many_5 (by decide) ?_
    refine lv_icmp_ge (tgt := 24) hx hb dX3_many_7 (by decide) (fun h => absurd h (nI_ge hk_1 (by omega))) (fun _ => ?_)
    refine lv_iload_n hx hb dX3_many_10 rfl (lv_at hl 1 rfl) ?_
    refine lv_iload_n hx hb dX3_many_11 rfl (lv_at hl 0 rfl) ?_
    refine lv_iload_n hx hb dX3_many_12 rfl (lv_at hl 2 rfl) ?_
    refine lv_ishr hx hb dX3_many_13 ?_
    refine lv_iconst (v := nI 1) hx hb dX3_many_14 (by decide) ?_
    refine lv_iand hx hb dX3_many_15 ?_
    refine x_top (y := nI (x / 2 ^ k % 2)) (nx_bit hx0 (by omega)) ?_
    refine x_addN hx hb dX3_many_16 ?_
    refine lv_istore_n (lv' := [(1, .int (nI (a + (x / 2 ^ k % 2)))), (0, .int (nI x)), (2, .int (nI k))]) hx hb dX3_many_17 rfl hl (by decide) rfl (fun ls hl => ?_)
    refine lv_iinc (v := nI (k + 1)) (lv' := [(2, .int (nI (k + 1))), (1, .int (nI (a + (x / 2 ^ k % 2)))), (0, .int (nI x))]) hx hb dX3_many_18 hl (k := 2) rfl (nI_1 k) (by decide) rfl (fun ls hl => ?_)
    refine lv_goto (tgt := 4) hx hb dX3_many_21 (by decide) ?_
    refine ih ls ?_
    show lv_has ls 3 [(0, .int (nI x)), (1, .int (nI ((fun k a => a + x / 2 ^ k % 2) k a))), (2, .int (nI (k + 1)))]
    rw [show nI ((fun k a => a + x / 2 ^ k % 2) k a) = nI (a + (x / 2 ^ k % 2)) from (by simp [])]
    exact lv_sub hl [2, 1, 0] rfl
  · intro ls hl
    have hl : lv_has ls 3 [(0, .int (nI x)), (1, .int (nI (mMany x))), (2, .int (nI 7))] := hl
    show W p l e (rmR 0 0) s m ([.int (nI x)]).toArray below meth c s.heap [] 0 0 (MQ below (QRet (some (.int (nI (mMany x))))) ([.int (nI x)]).toArray s 0 0 (fun _ => False)) (F0 m 4 ls [])
    refine lv_iload_n hx hb dX3_many_4 rfl (lv_at hl 2 rfl) ?_
    refine lv_bipush (v := nI 7) hx hb dX3_many_5 (by decide) ?_
    refine lv_icmp_ge (tgt := 24) hx hb dX3_many_7 (by decide) (fun _ => ?_) (fun h => absurd (by decide) h)
    refine lv_iload_n hx hb dX3_many_24 rfl (lv_at hl 1 rfl) ?_
    exact x_iret hx hb hrt hlk rfl dX3_many_25

set_option maxHeartbeats 4000000 in
theorem mr_route (l : Launch) (x k : Nat) : RO l yX3_route cX3_route 2 (some .int) 0 0 [.int (nI x), .int (nI k)] (fun _ => True) (fun _ => True) (some (.int (nI (21 + 8 * x + k)))) := by
  refine ro_of (by decide) (Nat.le_of_ble_eq_true rfl) ?_
  intro p e s m below meth c S hrt hlk K hP ls hl
  obtain ⟨hx, hb, hml, hown, hts⟩ := id S
  have hl : lv_has ls 2 [(0, .int (nI x)), (1, .int (nI k))] := hl
  refine lv_bipush (v := nI 21) hx hb dX3_route_0 (by decide) ?_
  refine lv_bipush (v := nI 8) hx hb dX3_route_2 (by decide) ?_
  refine lv_iload_n hx hb dX3_route_4 rfl (lv_at hl 0 rfl) ?_
  refine x_mulN hx hb dX3_route_5 ?_
  refine x_addN hx hb dX3_route_6 ?_
  refine lv_iload_n hx hb dX3_route_7 rfl (lv_at hl 1 rfl) ?_
  refine x_addN hx hb dX3_route_8 ?_
  exact x_iret hx hb hrt hlk (by simp []) dX3_route_9

set_option maxHeartbeats 4000000 in
theorem mr_excludes (l : Launch) (D : va_G) (dA : Nat → ClassId) (h0 hr : Nat) (fs : List Value) (row : Nat → Int32) {n cu q : Nat} (w : MWf row n cu q) (pl : Nat) (hp : pl < 128) : RO l yX3_excludes cX3_excludes 4 (some .boolean) 1 40 [.ref h0, .int (nI pl)] (KA D dA) (MRo D dA h0 hr fs row) (some (.int (bI (mExcl row n pl)))) := by
  refine ro_of (by decide) (Nat.le_of_ble_eq_true rfl) ?_
  intro p e s m below meth c S hrt hlk K hP ls hl
  obtain ⟨hx, hb, hml, hown, hts⟩ := id S
  obtain ⟨e0, hn, e1, hcu, e3, hq, hray⟩ := id w
  have hl : lv_has ls 4 [(0, .ref h0), (1, .int (nI pl))] := hl
  refine lv_iconst (v := nI 0) hx hb dX3_excludes_0 (by decide) ?_
  refine lv_istore_n (lv' := [(2, .int (nI 0)), (0, .ref h0), (1, .int (nI pl))]) hx hb dX3_excludes_1 rfl hl (by decide) rfl (fun ls hl => ?_)
  refine lv_iconst (v := nI 0) hx hb dX3_excludes_2 (by decide) ?_
  refine lv_istore_n (lv' := [(3, .int (nI 0)), (2, .int (nI 0)), (0, .ref h0), (1, .int (nI pl))]) hx hb dX3_excludes_3 rfl hl (by decide) rfl (fun ls hl => ?_)
  refine lpI (mExS row pl) false n (fun k a ls => lv_has ls 4 [(0, .ref h0), (1, .int (nI pl)), (2, .int (bI a)), (3, .int (nI k))]) (fun ls => W p l e (rmR 1 40) s m ([.ref h0, .int (nI pl)]).toArray below meth c s.heap [] 0 0 (MQ below (QRet (some (.int (bI (mExcl row n pl))))) ([.ref h0, .int (nI pl)]).toArray s 0 0 (fun _ => False)) (F0 m 4 ls [])) ?_ ?_ ls (lv_sub hl [2, 3, 1, 0] rfl)
  · intro k ls hk_1 hl ih
    generalize iter (mExS row pl) k 0 false = a at *
    have hl : lv_has ls 4 [(0, .ref h0), (1, .int (nI pl)), (2, .int (bI a)), (3, .int (nI k))] := hl
    show W p l e (rmR 1 40) s m ([.ref h0, .int (nI pl)]).toArray below meth c s.heap [] 0 0 (MQ below (QRet (some (.int (bI (mExcl row n pl))))) ([.ref h0, .int (nI pl)]).toArray s 0 0 (fun _ => False)) (F0 m 4 ls [])
    refine lv_iload_n hx hb dX3_excludes_4 rfl (lv_at hl 3 rfl) ?_
    refine lv_aload_n hx hb dX3_excludes_5 rfl (lv_at hl 0 rfl) ?_
    refine va_get (D := D) (ci := 3) (C := RX3) (T := TX3) (N := 10) hx hb hts in_X3 hown K hP 0 rfl rfl 0 (by decide) (hts _ q1075) (fun _ h9 => h9) rfl dX3_excludes_6 ?_
    refine lv_iconst (v := nI 0) hx hb dX3_excludes_9 (by decide) ?_
    refine x_iald hx hb K hP 1 0 rfl rfl 0 rfl (by omega) (by decide) e0 dX3_excludes_10 ?_
    refine lv_icmp_ge (tgt := 52) hx hb dX3_excludes_11 (by decide) (fun h => absurd h (nI_ge hk_1 (by omega))) (fun _ => ?_)
    refine lv_iload_n hx hb dX3_excludes_14 rfl (lv_at hl 2 rfl) ?_
    refine x_ifb_ne (tgt := 40) hx hb dX3_excludes_15 (by decide) (fun h_3 => ?_) (fun h_3 => ?_)
    · refine lv_iconst (v := nI 1) hx hb dX3_excludes_40 (by decide) ?_
      refine lv_goto (tgt := 45) hx hb dX3_excludes_41 (by decide) ?_
      refine lv_istore_n (lv' := [(2, .int (nI 1)), (0, .ref h0), (1, .int (nI pl)), (3, .int (nI k))]) hx hb dX3_excludes_45 rfl hl (by decide) rfl (fun ls hl => ?_)
      refine lv_iinc (v := nI (k + 1)) (lv' := [(3, .int (nI (k + 1))), (2, .int (nI 1)), (0, .ref h0), (1, .int (nI pl))]) hx hb dX3_excludes_46 hl (k := 3) rfl (nI_1 k) (by decide) rfl (fun ls hl => ?_)
      refine lv_goto (tgt := 4) hx hb dX3_excludes_49 (by decide) ?_
      refine ih ls ?_
      show lv_has ls 4 [(0, .ref h0), (1, .int (nI pl)), (2, .int (bI ((mExS row pl) k a))), (3, .int (nI (k + 1)))]
      rw [show bI ((mExS row pl) k a) = nI 1 from (by simp [mExS, bI, nI_0, nI_1l, h_3])]
      exact lv_sub hl [2, 3, 1, 0] rfl
    · refine lv_iload_n hx hb dX3_excludes_18 rfl (lv_at hl 1 rfl) ?_
      refine lv_iload_n hx hb dX3_excludes_19 rfl (lv_at hl 3 rfl) ?_
      refine x_ret (va_runS (As := [.int (nI pl), .int (nI k)]) (rest := []) S (mr_isIn l pl k (by omega) (by omega)) (va_cwS 2 hts (lw_S q1181 q1182 q69 q1183) rfl rfl rfl hdX3_isIn ⟨Nat.le_of_ble_eq_true rfl, Nat.le_of_ble_eq_true rfl⟩) ⟨bb_blind tt_bl _, tt_pre _⟩ rfl rfl hl.1 rfl (lv_room (Nat.le_of_ble_eq_true rfl)) dX3_excludes_20 ⟨Nat.le_refl _, Nat.le_refl _⟩) ?_
      refine x_ifb_eq (tgt := 44) hx hb dX3_excludes_23 (by decide) (fun h_4 => ?_) (fun h_4 => ?_)
      · refine lv_iconst (v := nI 0) hx hb dX3_excludes_44 (by decide) ?_
        refine lv_istore_n (lv' := [(2, .int (nI 0)), (0, .ref h0), (1, .int (nI pl)), (3, .int (nI k))]) hx hb dX3_excludes_45 rfl hl (by decide) rfl (fun ls hl => ?_)
        refine lv_iinc (v := nI (k + 1)) (lv' := [(3, .int (nI (k + 1))), (2, .int (nI 0)), (0, .ref h0), (1, .int (nI pl))]) hx hb dX3_excludes_46 hl (k := 3) rfl (nI_1 k) (by decide) rfl (fun ls hl => ?_)
        refine lv_goto (tgt := 4) hx hb dX3_excludes_49 (by decide) ?_
        refine ih ls ?_
        show lv_has ls 4 [(0, .ref h0), (1, .int (nI pl)), (2, .int (bI ((mExS row pl) k a))), (3, .int (nI (k + 1)))]
        rw [show bI ((mExS row pl) k a) = nI 0 from (by simp [mExS, bI, nI_0, nI_1l, h_3, h_4])]
        exact lv_sub hl [2, 3, 1, 0] rfl
      · refine lv_iload_n hx hb dX3_excludes_26 rfl (lv_at hl 1 rfl) ?_
        refine lv_aload_n hx hb dX3_excludes_27 rfl (lv_at hl 0 rfl) ?_
        refine va_get (D := D) (ci := 3) (C := RX3) (T := TX3) (N := 10) hx hb hts in_X3 hown K hP 0 rfl rfl 0 (by decide) (hts _ q1075) (fun _ h9 => h9) rfl dX3_excludes_28 ?_
        refine lv_bipush (v := nI 77) hx hb dX3_excludes_31 (by decide) ?_
        refine lv_iload_n hx hb dX3_excludes_33 rfl (lv_at hl 3 rfl) ?_
        refine x_addN hx hb dX3_excludes_34 ?_
        refine x_iald hx hb K hP 1 0 rfl rfl (77 + k) rfl (by omega) (by decide) rfl dX3_excludes_35 ?_
        refine lv_iand hx hb dX3_excludes_36 ?_
        refine lv_if_eq (tgt := 44) hx hb dX3_excludes_37 (by decide) (fun h_5 => ?_) (fun h_5 => ?_)
        · refine lv_iconst (v := nI 0) hx hb dX3_excludes_44 (by decide) ?_
          refine lv_istore_n (lv' := [(2, .int (nI 0)), (0, .ref h0), (1, .int (nI pl)), (3, .int (nI k))]) hx hb dX3_excludes_45 rfl hl (by decide) rfl (fun ls hl => ?_)
          refine lv_iinc (v := nI (k + 1)) (lv' := [(3, .int (nI (k + 1))), (2, .int (nI 0)), (0, .ref h0), (1, .int (nI pl))]) hx hb dX3_excludes_46 hl (k := 3) rfl (nI_1 k) (by decide) rfl (fun ls hl => ?_)
          refine lv_goto (tgt := 4) hx hb dX3_excludes_49 (by decide) ?_
          refine ih ls ?_
          show lv_has ls 4 [(0, .ref h0), (1, .int (nI pl)), (2, .int (bI ((mExS row pl) k a))), (3, .int (nI (k + 1)))]
          rw [show bI ((mExS row pl) k a) = nI 0 from (by simp [mExS, bI, nI_0, nI_1l, h_3, h_4, h_5])]
          exact lv_sub hl [2, 3, 1, 0] rfl
        · refine lv_iconst (v := nI 1) hx hb dX3_excludes_40 (by decide) ?_
          refine lv_goto (tgt := 45) hx hb dX3_excludes_41 (by decide) ?_
          refine lv_istore_n (lv' := [(2, .int (nI 1)), (0, .ref h0), (1, .int (nI pl)), (3, .int (nI k))]) hx hb dX3_excludes_45 rfl hl (by decide) rfl (fun ls hl => ?_)
          refine lv_iinc (v := nI (k + 1)) (lv' := [(3, .int (nI (k + 1))), (2, .int (nI 1)), (0, .ref h0), (1, .int (nI pl))]) hx hb dX3_excludes_46 hl (k := 3) rfl (nI_1 k) (by decide) rfl (fun ls hl => ?_)
          refine lv_goto (tgt := 4) hx hb dX3_excludes_49 (by decide) ?_
          refine ih ls ?_
          show lv_has ls 4 [(0, .ref h0), (1, .int (nI pl)), (2, .int (bI ((mExS row pl) k a))), (3, .int (nI (k + 1)))]
          rw [show bI ((mExS row pl) k a) = nI 1 from (by simp [mExS, bI, nI_0, nI_1l, h_3, h_4, h_5])]
          exact lv_sub hl [2, 3, 1, 0] rfl
  · intro ls hl
    have hl : lv_has ls 4 [(0, .ref h0), (1, .int (nI pl)), (2, .int (bI (mExcl row n pl))), (3, .int (nI n))] := hl
    show W p l e (rmR 1 40) s m ([.ref h0, .int (nI pl)]).toArray below meth c s.heap [] 0 0 (MQ below (QRet (some (.int (bI (mExcl row n pl))))) ([.ref h0, .int (nI pl)]).toArray s 0 0 (fun _ => False)) (F0 m 4 ls [])
    refine lv_iload_n hx hb dX3_excludes_4 rfl (lv_at hl 3 rfl) ?_
    refine lv_aload_n hx hb dX3_excludes_5 rfl (lv_at hl 0 rfl) ?_
    refine va_get (D := D) (ci := 3) (C := RX3) (T := TX3) (N := 10) hx hb hts in_X3 hown K hP 0 rfl rfl 0 (by decide) (hts _ q1075) (fun _ h9 => h9) rfl dX3_excludes_6 ?_
    refine lv_iconst (v := nI 0) hx hb dX3_excludes_9 (by decide) ?_
    refine x_iald hx hb K hP 1 0 rfl rfl 0 rfl (by omega) (by decide) e0 dX3_excludes_10 ?_
    refine lv_icmp_ge (tgt := 52) hx hb dX3_excludes_11 (by decide) (fun _ => ?_) (fun h => absurd (nI_le (by omega) (by omega)) h)
    refine lv_iload_n hx hb dX3_excludes_52 rfl (lv_at hl 2 rfl) ?_
    exact x_zret hx hb hrt hlk rfl dX3_excludes_53

set_option maxHeartbeats 4000000 in
theorem mr_isAllowed (l : Launch) (D : va_G) (dA : Nat → ClassId) (h0 hr : Nat) (fs : List Value) (row : Nat → Int32) {n cu q : Nat} (w : MWf row n cu q) (pl : Nat) (hp : pl < 128) : RO l yX3_isAllowed cX3_isAllowed 2 (some .boolean) 2 80 [.ref h0, .int (nI pl)] (KA D dA) (MRo D dA h0 hr fs row) (some (.int (bI (mAllowed row n pl)))) := by
  refine ro_of (by decide) (Nat.le_of_ble_eq_true rfl) ?_
  intro p e s m below meth c S hrt hlk K hP ls hl
  obtain ⟨hx, hb, hml, hown, hts⟩ := id S
  obtain ⟨e0, hn, e1, hcu, e3, hq, hray⟩ := id w
  have hl : lv_has ls 2 [(0, .ref h0), (1, .int (nI pl))] := hl
  refine lv_iload_n hx hb dX3_isAllowed_0 rfl (lv_at hl 1 rfl) ?_
  refine x_ret (va_runS (As := [.int (nI pl)]) (rest := []) S (mr_many l pl (by omega)) (va_cwS 1 hts (lw_S q1184 q1185 q69 q1186) rfl rfl rfl hdX3_many ⟨Nat.le_of_ble_eq_true rfl, Nat.le_of_ble_eq_true rfl⟩) ⟨bb_blind tt_bl _, tt_pre _⟩ rfl rfl hl.1 rfl (lv_room (Nat.le_of_ble_eq_true rfl)) dX3_isAllowed_1 ⟨Nat.le_refl _, Nat.le_refl _⟩) ?_
  refine lv_aload_n hx hb dX3_isAllowed_4 rfl (lv_at hl 0 rfl) ?_
  refine va_get (D := D) (ci := 3) (C := RX3) (T := TX3) (N := 10) hx hb hts in_X3 hown K hP 0 rfl rfl 0 (by decide) (hts _ q1075) (fun _ h9 => h9) rfl dX3_isAllowed_5 ?_
  refine lv_iconst (v := nI 2) hx hb dX3_isAllowed_8 (by decide) ?_
  refine x_iald hx hb K hP 1 0 rfl rfl 2 rfl (by omega) (by decide) rfl dX3_isAllowed_9 ?_
  refine lv_icmp_gt (tgt := 25) hx hb dX3_isAllowed_10 (by decide) (fun h_1 => ?_) (fun h_1 => ?_)
  · refine lv_iconst (v := nI 0) hx hb dX3_isAllowed_25 (by decide) ?_
    exact x_zret hx hb hrt hlk (by simp [mAllowed, bI, nI_0, nI_1l, h_1]) dX3_isAllowed_26
  · refine lv_aload_n hx hb dX3_isAllowed_13 rfl (lv_at hl 0 rfl) ?_
    refine lv_iload_n hx hb dX3_isAllowed_14 rfl (lv_at hl 1 rfl) ?_
    refine x_ret (va_runV (As := [.int (nI pl)]) (rest := []) S (mr_excludes l D dA h0 hr fs row w pl (by omega)) (cwV 1 hts (lw_V q1203 q1205 qs34 q69 q1206) rfl rfl rfl hdX3_excludes ⟨Nat.le_of_ble_eq_true rfl, Nat.le_of_ble_eq_true rfl⟩) ⟨bb_blind ka_bl _, va_recv K hP (ci := 3) (q0 := 0) rfl rfl, ka_pre K hP _⟩ rfl rfl hl.1 rfl (lv_room (Nat.le_of_ble_eq_true rfl)) dX3_isAllowed_15 ⟨Nat.le_refl _, Nat.le_refl _⟩) ?_
    refine x_ifb_ne (tgt := 25) hx hb dX3_isAllowed_18 (by decide) (fun h_2 => ?_) (fun h_2 => ?_)
    · refine lv_iconst (v := nI 0) hx hb dX3_isAllowed_25 (by decide) ?_
      exact x_zret hx hb hrt hlk (by simp [mAllowed, bI, nI_0, nI_1l, h_1, h_2]) dX3_isAllowed_26
    · refine lv_iconst (v := nI 1) hx hb dX3_isAllowed_21 (by decide) ?_
      refine lv_goto (tgt := 26) hx hb dX3_isAllowed_22 (by decide) ?_
      exact x_zret hx hb hrt hlk (by simp [mAllowed, bI, nI_0, nI_1l, h_1, h_2]) dX3_isAllowed_26

set_option maxHeartbeats 4000000 in
theorem mr_reachedFrom (l : Launch) (D : va_G) (dA : Nat → ClassId) (h0 hr : Nat) (fs : List Value) (row : Nat → Int32) {n cu q : Nat} (w : MWf row n cu q) (j : Nat) (hj : j < 8) : RO l yX3_reachedFrom cX3_reachedFrom 4 (some .int) 1 40 [.ref h0, .int (nI j)] (KA D dA) (MRo D dA h0 hr fs row) (some (.int (nI (mReach row n j)))) := by
  refine ro_of (by decide) (Nat.le_of_ble_eq_true rfl) ?_
  intro p e s m below meth c S hrt hlk K hP ls hl
  obtain ⟨hx, hb, hml, hown, hts⟩ := id S
  obtain ⟨e0, hn, e1, hcu, e3, hq, hray⟩ := id w
  have hl : lv_has ls 4 [(0, .ref h0), (1, .int (nI j))] := hl
  refine lv_iconst (v := nI 0) hx hb dX3_reachedFrom_0 (by decide) ?_
  refine lv_istore_n (lv' := [(2, .int (nI 0)), (0, .ref h0), (1, .int (nI j))]) hx hb dX3_reachedFrom_1 rfl hl (by decide) rfl (fun ls hl => ?_)
  refine lv_iconst (v := nI 0) hx hb dX3_reachedFrom_2 (by decide) ?_
  refine lv_istore_n (lv' := [(3, .int (nI 0)), (2, .int (nI 0)), (0, .ref h0), (1, .int (nI j))]) hx hb dX3_reachedFrom_3 rfl hl (by decide) rfl (fun ls hl => ?_)
  refine lpI (mReS row j) 0 n (fun k a ls => lv_has ls 4 [(0, .ref h0), (1, .int (nI j)), (2, .int (nI a)), (3, .int (nI k))]) (fun ls => W p l e (rmR 1 40) s m ([.ref h0, .int (nI j)]).toArray below meth c s.heap [] 0 0 (MQ below (QRet (some (.int (nI (mReach row n j))))) ([.ref h0, .int (nI j)]).toArray s 0 0 (fun _ => False)) (F0 m 4 ls [])) ?_ ?_ ls (lv_sub hl [2, 3, 1, 0] rfl)
  · intro k ls hk_1 hl ih
    generalize iter (mReS row j) k 0 0 = a at *
    have hl : lv_has ls 4 [(0, .ref h0), (1, .int (nI j)), (2, .int (nI a)), (3, .int (nI k))] := hl
    show W p l e (rmR 1 40) s m ([.ref h0, .int (nI j)]).toArray below meth c s.heap [] 0 0 (MQ below (QRet (some (.int (nI (mReach row n j))))) ([.ref h0, .int (nI j)]).toArray s 0 0 (fun _ => False)) (F0 m 4 ls [])
    refine lv_iload_n hx hb dX3_reachedFrom_4 rfl (lv_at hl 3 rfl) ?_
    refine lv_aload_n hx hb dX3_reachedFrom_5 rfl (lv_at hl 0 rfl) ?_
    refine va_get (D := D) (ci := 3) (C := RX3) (T := TX3) (N := 10) hx hb hts in_X3 hown K hP 0 rfl rfl 0 (by decide) (hts _ q1075) (fun _ h9 => h9) rfl dX3_reachedFrom_6 ?_
    refine lv_iconst (v := nI 0) hx hb dX3_reachedFrom_9 (by decide) ?_
    refine x_iald hx hb K hP 1 0 rfl rfl 0 rfl (by omega) (by decide) e0 dX3_reachedFrom_10 ?_
    refine lv_icmp_ge (tgt := 45) hx hb dX3_reachedFrom_11 (by decide) (fun h => absurd h (nI_ge hk_1 (by omega))) (fun _ => ?_)
    refine lv_iload_n hx hb dX3_reachedFrom_14 rfl (lv_at hl 2 rfl) ?_
    refine lv_aload_n hx hb dX3_reachedFrom_15 rfl (lv_at hl 0 rfl) ?_
    refine va_get (D := D) (ci := 3) (C := RX3) (T := TX3) (N := 10) hx hb hts in_X3 hown K hP 0 rfl rfl 0 (by decide) (hts _ q1075) (fun _ h9 => h9) rfl dX3_reachedFrom_16 ?_
    refine lv_iload_n hx hb dX3_reachedFrom_19 rfl (lv_at hl 3 rfl) ?_
    refine lv_iload_n hx hb dX3_reachedFrom_20 rfl (lv_at hl 1 rfl) ?_
    refine x_ret (va_runS (As := [.int (nI k), .int (nI j)]) (rest := [.ref hr, .int (nI a)]) S (mr_route l k j) (va_cwS 2 hts (lw_S q1170 q1171 q69 q1172) rfl rfl rfl hdX3_route ⟨Nat.le_of_ble_eq_true rfl, Nat.le_of_ble_eq_true rfl⟩) ⟨bb_blind tt_bl _, tt_pre _⟩ rfl rfl hl.1 rfl (lv_room (Nat.le_of_ble_eq_true rfl)) dX3_reachedFrom_21 ⟨Nat.le_refl _, Nat.le_refl _⟩) ?_
    refine x_iald hx hb K hP 1 0 rfl rfl (21 + 8 * k + j) rfl (by omega) (by decide) rfl dX3_reachedFrom_24 ?_
    refine lv_bipush (v := nI 100) hx hb dX3_reachedFrom_25 (by decide) ?_
    refine lv_icmp_ge (tgt := 36) hx hb dX3_reachedFrom_27 (by decide) (fun h_3 => ?_) (fun h_3 => ?_)
    · refine lv_iconst (v := nI 0) hx hb dX3_reachedFrom_36 (by decide) ?_
      refine lv_ior hx hb dX3_reachedFrom_37 ?_
      refine x_top (y := nI (a ||| 0)) (nx_or _ _) ?_
      refine lv_istore_n (lv' := [(2, .int (nI (a ||| 0))), (0, .ref h0), (1, .int (nI j)), (3, .int (nI k))]) hx hb dX3_reachedFrom_38 rfl hl (by decide) rfl (fun ls hl => ?_)
      refine lv_iinc (v := nI (k + 1)) (lv' := [(3, .int (nI (k + 1))), (2, .int (nI (a ||| 0))), (0, .ref h0), (1, .int (nI j))]) hx hb dX3_reachedFrom_39 hl (k := 3) rfl (nI_1 k) (by decide) rfl (fun ls hl => ?_)
      refine lv_goto (tgt := 4) hx hb dX3_reachedFrom_42 (by decide) ?_
      refine ih ls ?_
      show lv_has ls 4 [(0, .ref h0), (1, .int (nI j)), (2, .int (nI ((mReS row j) k a))), (3, .int (nI (k + 1)))]
      rw [show nI ((mReS row j) k a) = nI (a ||| 0) from (by simp [mReS, h_3])]
      exact lv_sub hl [2, 3, 1, 0] rfl
    · refine lv_iconst (v := nI 1) hx hb dX3_reachedFrom_30 (by decide) ?_
      refine lv_iload_n hx hb dX3_reachedFrom_31 rfl (lv_at hl 3 rfl) ?_
      refine lv_ishl hx hb dX3_reachedFrom_32 ?_
      refine x_top (y := nI (2 ^ k)) (nx_shl (by omega)) ?_
      refine lv_goto (tgt := 37) hx hb dX3_reachedFrom_33 (by decide) ?_
      refine lv_ior hx hb dX3_reachedFrom_37 ?_
      refine x_top (y := nI (a ||| (2 ^ k))) (nx_or _ _) ?_
      refine lv_istore_n (lv' := [(2, .int (nI (a ||| (2 ^ k)))), (0, .ref h0), (1, .int (nI j)), (3, .int (nI k))]) hx hb dX3_reachedFrom_38 rfl hl (by decide) rfl (fun ls hl => ?_)
      refine lv_iinc (v := nI (k + 1)) (lv' := [(3, .int (nI (k + 1))), (2, .int (nI (a ||| (2 ^ k)))), (0, .ref h0), (1, .int (nI j))]) hx hb dX3_reachedFrom_39 hl (k := 3) rfl (nI_1 k) (by decide) rfl (fun ls hl => ?_)
      refine lv_goto (tgt := 4) hx hb dX3_reachedFrom_42 (by decide) ?_
      refine ih ls ?_
      show lv_has ls 4 [(0, .ref h0), (1, .int (nI j)), (2, .int (nI ((mReS row j) k a))), (3, .int (nI (k + 1)))]
      rw [show nI ((mReS row j) k a) = nI (a ||| (2 ^ k)) from (by simp [mReS, h_3])]
      exact lv_sub hl [2, 3, 1, 0] rfl
  · intro ls hl
    have hl : lv_has ls 4 [(0, .ref h0), (1, .int (nI j)), (2, .int (nI (mReach row n j))), (3, .int (nI n))] := hl
    show W p l e (rmR 1 40) s m ([.ref h0, .int (nI j)]).toArray below meth c s.heap [] 0 0 (MQ below (QRet (some (.int (nI (mReach row n j))))) ([.ref h0, .int (nI j)]).toArray s 0 0 (fun _ => False)) (F0 m 4 ls [])
    refine lv_iload_n hx hb dX3_reachedFrom_4 rfl (lv_at hl 3 rfl) ?_
    refine lv_aload_n hx hb dX3_reachedFrom_5 rfl (lv_at hl 0 rfl) ?_
    refine va_get (D := D) (ci := 3) (C := RX3) (T := TX3) (N := 10) hx hb hts in_X3 hown K hP 0 rfl rfl 0 (by decide) (hts _ q1075) (fun _ h9 => h9) rfl dX3_reachedFrom_6 ?_
    refine lv_iconst (v := nI 0) hx hb dX3_reachedFrom_9 (by decide) ?_
    refine x_iald hx hb K hP 1 0 rfl rfl 0 rfl (by omega) (by decide) e0 dX3_reachedFrom_10 ?_
    refine lv_icmp_ge (tgt := 45) hx hb dX3_reachedFrom_11 (by decide) (fun _ => ?_) (fun h => absurd (nI_le (by omega) (by omega)) h)
    refine lv_iload_n hx hb dX3_reachedFrom_45 rfl (lv_at hl 2 rfl) ?_
    exact x_iret hx hb hrt hlk rfl dX3_reachedFrom_46

set_option maxHeartbeats 4000000 in
theorem mr_missed (l : Launch) (D : va_G) (dA : Nat → ClassId) (h0 hr : Nat) (fs : List Value) (row : Nat → Int32) {n cu q : Nat} (w : MWf row n cu q) (pl : Nat) (hp : pl < 128) : RO l yX3_missed cX3_missed 3 (some .int) 2 80 [.ref h0, .int (nI pl)] (KA D dA) (MRo D dA h0 hr fs row) (some (.int (oI (mMissed row n cu pl)))) := by
  refine ro_of (by decide) (Nat.le_of_ble_eq_true rfl) ?_
  intro p e s m below meth c S hrt hlk K hP ls hl
  obtain ⟨hx, hb, hml, hown, hts⟩ := id S
  obtain ⟨e0, hn, e1, hcu, e3, hq, hray⟩ := id w
  have h128 : ∀ x, pl &&& x < 128 := fun x => and_lt hp
  have hl : lv_has ls 3 [(0, .ref h0), (1, .int (nI pl))] := hl
  refine lv_iconst (v := nI 0) hx hb dX3_missed_0 (by decide) ?_
  refine lv_istore_n (lv' := [(2, .int (nI 0)), (0, .ref h0), (1, .int (nI pl))]) hx hb dX3_missed_1 rfl hl (by decide) rfl (fun ls hl => ?_)
  refine lpF (mMissP row n pl) cu (fun k ls => lv_has ls 3 [(0, .ref h0), (1, .int (nI pl)), (2, .int (nI k))]) (fun a ls => W p l e (rmR 2 80) s m ([.ref h0, .int (nI pl)]).toArray below meth c s.heap [] 0 0 (MQ below (QRet (some (.int (oI a)))) ([.ref h0, .int (nI pl)]).toArray s 0 0 (fun _ => False)) (F0 m 2 ls [])) ?_ ?_ ls (lv_sub hl [1, 2, 0] rfl)
  · intro k ls v_3 hk_1 hl hv_2 ih
    have hl : lv_has ls 3 [(0, .ref h0), (1, .int (nI pl)), (2, .int (nI k))] := hl
    show W p l e (rmR 2 80) s m ([.ref h0, .int (nI pl)]).toArray below meth c s.heap [] 0 0 (MQ below (QRet (some (.int (oI v_3)))) ([.ref h0, .int (nI pl)]).toArray s 0 0 (fun _ => False)) (F0 m 2 ls [])
    refine lv_iload_n hx hb dX3_missed_2 rfl (lv_at hl 2 rfl) ?_
    refine lv_aload_n hx hb dX3_missed_3 rfl (lv_at hl 0 rfl) ?_
    refine va_get (D := D) (ci := 3) (C := RX3) (T := TX3) (N := 10) hx hb hts in_X3 hown K hP 0 rfl rfl 0 (by decide) (hts _ q1075) (fun _ h9 => h9) rfl dX3_missed_4 ?_
    refine lv_iconst (v := nI 1) hx hb dX3_missed_7 (by decide) ?_
    refine x_iald hx hb K hP 1 0 rfl rfl 1 rfl (by omega) (by decide) e1 dX3_missed_8 ?_
    refine lv_icmp_ge (tgt := 30) hx hb dX3_missed_9 (by decide) (fun h => absurd h (nI_ge hk_1 (by omega))) (fun _ => ?_)
    refine lv_iload_n hx hb dX3_missed_12 rfl (lv_at hl 1 rfl) ?_
    refine lv_aload_n hx hb dX3_missed_13 rfl (lv_at hl 0 rfl) ?_
    refine lv_iload_n hx hb dX3_missed_14 rfl (lv_at hl 2 rfl) ?_
    refine x_ret (va_runV (As := [.int (nI k)]) (rest := [.int (nI pl)]) S (mr_reachedFrom l D dA h0 hr fs row w k (by omega)) (cwV 1 hts (lw_V q1219 q1221 qs38 q69 q1222) rfl rfl rfl hdX3_reachedFrom ⟨Nat.le_of_ble_eq_true rfl, Nat.le_of_ble_eq_true rfl⟩) ⟨bb_blind ka_bl _, va_recv K hP (ci := 3) (q0 := 0) rfl rfl, ka_pre K hP _⟩ rfl rfl hl.1 rfl (lv_room (Nat.le_of_ble_eq_true rfl)) dX3_missed_15 ⟨Nat.le_refl _, Nat.le_refl _⟩) ?_
    refine lv_iand hx hb dX3_missed_18 ?_
    refine x_top (y := nI (pl &&& mReach row n k)) (nx_and _ _) ?_
    refine x_ifn_ne (tgt := 24) hx hb dX3_missed_19 (by decide) (Nat.lt_trans (h128 _) (by decide)) (fun h_5 => ?_) (fun h_5 => ?_)
    · refine lv_iinc (v := nI (k + 1)) (lv' := [(2, .int (nI (k + 1))), (0, .ref h0), (1, .int (nI pl))]) hx hb dX3_missed_24 hl (k := 2) rfl (nI_1 k) (by decide) rfl (fun ls hl => ?_)
      refine lv_goto (tgt := 2) hx hb dX3_missed_27 (by decide) ?_
      refine ih (by simp [mMissP, h_5]) ls ?_
      show lv_has ls 3 [(0, .ref h0), (1, .int (nI pl)), (2, .int (nI (k + 1)))]
      exact lv_sub hl [1, 2, 0] rfl
    · refine lv_iload_n hx hb dX3_missed_22 rfl (lv_at hl 2 rfl) ?_
      exact x_iret hx hb hrt hlk (by rw [hv_2 (by simp [mMissP, h_5])]; rfl) dX3_missed_23
  · intro ls hl
    have hl : lv_has ls 3 [(0, .ref h0), (1, .int (nI pl)), (2, .int (nI cu))] := hl
    show W p l e (rmR 2 80) s m ([.ref h0, .int (nI pl)]).toArray below meth c s.heap [] 0 0 (MQ below (QRet (some (.int (oI none)))) ([.ref h0, .int (nI pl)]).toArray s 0 0 (fun _ => False)) (F0 m 2 ls [])
    refine lv_iload_n hx hb dX3_missed_2 rfl (lv_at hl 2 rfl) ?_
    refine lv_aload_n hx hb dX3_missed_3 rfl (lv_at hl 0 rfl) ?_
    refine va_get (D := D) (ci := 3) (C := RX3) (T := TX3) (N := 10) hx hb hts in_X3 hown K hP 0 rfl rfl 0 (by decide) (hts _ q1075) (fun _ h9 => h9) rfl dX3_missed_4 ?_
    refine lv_iconst (v := nI 1) hx hb dX3_missed_7 (by decide) ?_
    refine x_iald hx hb K hP 1 0 rfl rfl 1 rfl (by omega) (by decide) e1 dX3_missed_8 ?_
    refine lv_icmp_ge (tgt := 30) hx hb dX3_missed_9 (by decide) (fun _ => ?_) (fun h => absurd (nI_le (by omega) (by omega)) h)
    refine lv_bipush (v := -5) hx hb dX3_missed_30 (by decide) ?_
    exact x_iret hx hb hrt hlk rfl dX3_missed_32

set_option maxHeartbeats 4000000 in
theorem mr_server (l : Launch) (D : va_G) (dA : Nat → ClassId) (h0 hr : Nat) (fs : List Value) (row : Nat → Int32) {n cu q : Nat} (w : MWf row n cu q) (pl j : Nat) (hp : pl < 128) (hj : j < 8) : RO l yX3_server cX3_server 6 (some .int) 1 40 [.ref h0, .int (nI pl), .int (nI j)] (KA D dA) (MRo D dA h0 hr fs row) (some (.int (oI (mServer row n pl j)))) := by
  refine ro_of (by decide) (Nat.le_of_ble_eq_true rfl) ?_
  intro p e s m below meth c S hrt hlk K hP ls hl
  obtain ⟨hx, hb, hml, hown, hts⟩ := id S
  obtain ⟨e0, hn, e1, hcu, e3, hq, hray⟩ := id w
  have hl : lv_has ls 6 [(0, .ref h0), (1, .int (nI pl)), (2, .int (nI j))] := hl
  refine lv_bipush (v := -5) hx hb dX3_server_0 (by decide) ?_
  refine lv_istore_n (lv' := [(3, .int (-5)), (0, .ref h0), (1, .int (nI pl)), (2, .int (nI j))]) hx hb dX3_server_2 rfl hl (by decide) rfl (fun ls hl => ?_)
  refine lv_iconst (v := nI 0) hx hb dX3_server_3 (by decide) ?_
  refine lv_istore (lv' := [(4, .int (nI 0)), (3, .int (-5)), (0, .ref h0), (1, .int (nI pl)), (2, .int (nI j))]) hx hb dX3_server_4 hl (by decide) rfl (fun ls hl => ?_)
  refine lpI (mSvS row pl j) none n (fun k a ls => lv_has ls 6 [(0, .ref h0), (1, .int (nI pl)), (2, .int (nI j)), (3, .int (oI a)), (4, .int (nI k))]) (fun ls => W p l e (rmR 1 40) s m ([.ref h0, .int (nI pl), .int (nI j)]).toArray below meth c s.heap [] 0 0 (MQ below (QRet (some (.int (oI (mServer row n pl j))))) ([.ref h0, .int (nI pl), .int (nI j)]).toArray s 0 0 (fun _ => False)) (F0 m 6 ls [])) ?_ ?_ ls (lv_sub hl [2, 3, 4, 1, 0] rfl)
  · intro k ls hk_1 hl ih
    have hbd : ∀ b, iter (mSvS row pl j) k 0 none = some b → b < k := iter_lt (mSvS_or row pl j) k
    generalize iter (mSvS row pl j) k 0 none = a at *
    have hl : lv_has ls 6 [(0, .ref h0), (1, .int (nI pl)), (2, .int (nI j)), (3, .int (oI a)), (4, .int (nI k))] := hl
    show W p l e (rmR 1 40) s m ([.ref h0, .int (nI pl), .int (nI j)]).toArray below meth c s.heap [] 0 0 (MQ below (QRet (some (.int (oI (mServer row n pl j))))) ([.ref h0, .int (nI pl), .int (nI j)]).toArray s 0 0 (fun _ => False)) (F0 m 6 ls [])
    refine lv_iload hx hb dX3_server_6 (lv_at hl 4 rfl) ?_
    refine lv_aload_n hx hb dX3_server_8 rfl (lv_at hl 0 rfl) ?_
    refine va_get (D := D) (ci := 3) (C := RX3) (T := TX3) (N := 10) hx hb hts in_X3 hown K hP 0 rfl rfl 0 (by decide) (hts _ q1075) (fun _ h9 => h9) rfl dX3_server_9 ?_
    refine lv_iconst (v := nI 0) hx hb dX3_server_12 (by decide) ?_
    refine x_iald hx hb K hP 1 0 rfl rfl 0 rfl (by omega) (by decide) e0 dX3_server_13 ?_
    refine lv_icmp_ge (tgt := 95) hx hb dX3_server_14 (by decide) (fun h => absurd h (nI_ge hk_1 (by omega))) (fun _ => ?_)
    refine lv_iload_n hx hb dX3_server_17 rfl (lv_at hl 1 rfl) ?_
    refine lv_iload hx hb dX3_server_18 (lv_at hl 4 rfl) ?_
    refine x_ret (va_runS (As := [.int (nI pl), .int (nI k)]) (rest := []) S (mr_isIn l pl k (by omega) (by omega)) (va_cwS 2 hts (lw_S q1181 q1182 q69 q1183) rfl rfl rfl hdX3_isIn ⟨Nat.le_of_ble_eq_true rfl, Nat.le_of_ble_eq_true rfl⟩) ⟨bb_blind tt_bl _, tt_pre _⟩ rfl rfl hl.1 rfl (lv_room (Nat.le_of_ble_eq_true rfl)) dX3_server_20 ⟨Nat.le_refl _, Nat.le_refl _⟩) ?_
    refine x_ifb_eq (tgt := 46) hx hb dX3_server_23 (by decide) (fun h_3 => ?_) (fun h_3 => ?_)
    · refine lv_iconst (v := nI 0) hx hb dX3_server_46 (by decide) ?_
      refine lv_istore (lv' := [(5, .int (nI 0)), (0, .ref h0), (1, .int (nI pl)), (2, .int (nI j)), (3, .int (oI a)), (4, .int (nI k))]) hx hb dX3_server_47 hl (by decide) rfl (fun ls hl => ?_)
      refine lv_iload hx hb dX3_server_49 (lv_at hl 0 rfl) ?_
      refine lv_if_eq (tgt := 87) hx hb dX3_server_51 (by decide) (fun _ => ?_) (fun h => absurd (by decide) h)
      refine lv_iload_n hx hb dX3_server_87 rfl (lv_at hl 4 rfl) ?_
      refine lv_istore_n (lv' := [(3, .int (oI a)), (5, .int (nI 0)), (0, .ref h0), (1, .int (nI pl)), (2, .int (nI j)), (4, .int (nI k))]) hx hb dX3_server_88 rfl hl (by decide) rfl (fun ls hl => ?_)
      refine lv_iinc (v := nI (k + 1)) (lv' := [(4, .int (nI (k + 1))), (3, .int (oI a)), (5, .int (nI 0)), (0, .ref h0), (1, .int (nI pl)), (2, .int (nI j))]) hx hb dX3_server_89 hl (k := 5) rfl (nI_1 k) (by decide) rfl (fun ls hl => ?_)
      refine lv_goto (tgt := 6) hx hb dX3_server_92 (by decide) ?_
      refine ih ls ?_
      show lv_has ls 6 [(0, .ref h0), (1, .int (nI pl)), (2, .int (nI j)), (3, .int (oI ((mSvS row pl j) k a))), (4, .int (nI (k + 1)))]
      rw [show oI ((mSvS row pl j) k a) = oI a from (by simp [mSvS, oI_s, oI_n, h_3])]
      exact lv_sub hl [3, 4, 5, 1, 0] rfl
    · refine lv_aload_n hx hb dX3_server_26 rfl (lv_at hl 0 rfl) ?_
      refine va_get (D := D) (ci := 3) (C := RX3) (T := TX3) (N := 10) hx hb hts in_X3 hown K hP 0 rfl rfl 0 (by decide) (hts _ q1075) (fun _ h9 => h9) rfl dX3_server_27 ?_
      refine lv_iload hx hb dX3_server_30 (lv_at hl 4 rfl) ?_
      refine lv_iload_n hx hb dX3_server_32 rfl (lv_at hl 2 rfl) ?_
      refine x_ret (va_runS (As := [.int (nI k), .int (nI j)]) (rest := [.ref hr]) S (mr_route l k j) (va_cwS 2 hts (lw_S q1170 q1171 q69 q1172) rfl rfl rfl hdX3_route ⟨Nat.le_of_ble_eq_true rfl, Nat.le_of_ble_eq_true rfl⟩) ⟨bb_blind tt_bl _, tt_pre _⟩ rfl rfl hl.1 rfl (lv_room (Nat.le_of_ble_eq_true rfl)) dX3_server_33 ⟨Nat.le_refl _, Nat.le_refl _⟩) ?_
      refine x_iald hx hb K hP 1 0 rfl rfl (21 + 8 * k + j) rfl (by omega) (by decide) rfl dX3_server_36 ?_
      refine lv_bipush (v := nI 100) hx hb dX3_server_37 (by decide) ?_
      refine lv_icmp_ge (tgt := 46) hx hb dX3_server_39 (by decide) (fun h_5 => ?_) (fun h_5 => ?_)
      · refine lv_iconst (v := nI 0) hx hb dX3_server_46 (by decide) ?_
        refine lv_istore (lv' := [(5, .int (nI 0)), (0, .ref h0), (1, .int (nI pl)), (2, .int (nI j)), (3, .int (oI a)), (4, .int (nI k))]) hx hb dX3_server_47 hl (by decide) rfl (fun ls hl => ?_)
        refine lv_iload hx hb dX3_server_49 (lv_at hl 0 rfl) ?_
        refine lv_if_eq (tgt := 87) hx hb dX3_server_51 (by decide) (fun _ => ?_) (fun h => absurd (by decide) h)
        refine lv_iload_n hx hb dX3_server_87 rfl (lv_at hl 4 rfl) ?_
        refine lv_istore_n (lv' := [(3, .int (oI a)), (5, .int (nI 0)), (0, .ref h0), (1, .int (nI pl)), (2, .int (nI j)), (4, .int (nI k))]) hx hb dX3_server_88 rfl hl (by decide) rfl (fun ls hl => ?_)
        refine lv_iinc (v := nI (k + 1)) (lv' := [(4, .int (nI (k + 1))), (3, .int (oI a)), (5, .int (nI 0)), (0, .ref h0), (1, .int (nI pl)), (2, .int (nI j))]) hx hb dX3_server_89 hl (k := 5) rfl (nI_1 k) (by decide) rfl (fun ls hl => ?_)
        refine lv_goto (tgt := 6) hx hb dX3_server_92 (by decide) ?_
        refine ih ls ?_
        show lv_has ls 6 [(0, .ref h0), (1, .int (nI pl)), (2, .int (nI j)), (3, .int (oI ((mSvS row pl j) k a))), (4, .int (nI (k + 1)))]
        rw [show oI ((mSvS row pl j) k a) = oI a from (by simp [mSvS, oI_s, oI_n, h_3, h_5])]
        exact lv_sub hl [3, 4, 5, 1, 0] rfl
      · refine lv_iconst (v := nI 1) hx hb dX3_server_42 (by decide) ?_
        refine lv_goto (tgt := 47) hx hb dX3_server_43 (by decide) ?_
        refine lv_istore (lv' := [(5, .int (nI 1)), (0, .ref h0), (1, .int (nI pl)), (2, .int (nI j)), (3, .int (oI a)), (4, .int (nI k))]) hx hb dX3_server_47 hl (by decide) rfl (fun ls hl => ?_)
        refine lv_iload hx hb dX3_server_49 (lv_at hl 0 rfl) ?_
        refine lv_if_eq (tgt := 87) hx hb dX3_server_51 (by decide) (fun h => absurd h (by decide)) (fun _ => ?_)
        refine lv_iload_n hx hb dX3_server_54 rfl (lv_at hl 4 rfl) ?_
        refine x_ifo_lt (tgt := 82) hx hb dX3_server_55 (by decide) (fun b hb => Nat.lt_trans (hbd b hb) (by omega)) (fun h_8 => ?_) (fun v_9 h_8 => ?_)
        · refine lv_iload hx hb dX3_server_82 (lv_at hl 5 rfl) ?_
          refine lv_goto (tgt := 88) hx hb dX3_server_84 (by decide) ?_
          refine lv_istore_n (lv' := [(3, .int (nI k)), (5, .int (nI 1)), (0, .ref h0), (1, .int (nI pl)), (2, .int (nI j)), (4, .int (nI k))]) hx hb dX3_server_88 rfl hl (by decide) rfl (fun ls hl => ?_)
          refine lv_iinc (v := nI (k + 1)) (lv' := [(4, .int (nI (k + 1))), (3, .int (nI k)), (5, .int (nI 1)), (0, .ref h0), (1, .int (nI pl)), (2, .int (nI j))]) hx hb dX3_server_89 hl (k := 5) rfl (nI_1 k) (by decide) rfl (fun ls hl => ?_)
          refine lv_goto (tgt := 6) hx hb dX3_server_92 (by decide) ?_
          refine ih ls ?_
          show lv_has ls 6 [(0, .ref h0), (1, .int (nI pl)), (2, .int (nI j)), (3, .int (oI ((mSvS row pl j) k a))), (4, .int (nI (k + 1)))]
          rw [show oI ((mSvS row pl j) k a) = nI k from (by simp [mSvS, oI_s, oI_n, h_3, h_5, h_8])]
          exact lv_sub hl [3, 4, 5, 1, 0] rfl
        · refine lv_aload_n hx hb dX3_server_58 rfl (lv_at hl 1 rfl) ?_
          refine va_get (D := D) (ci := 3) (C := RX3) (T := TX3) (N := 10) hx hb hts in_X3 hown K hP 0 rfl rfl 0 (by decide) (hts _ q1075) (fun _ h9 => h9) rfl dX3_server_59 ?_
          refine lv_iload hx hb dX3_server_62 (lv_at hl 5 rfl) ?_
          refine lv_iload_n hx hb dX3_server_64 rfl (lv_at hl 3 rfl) ?_
          refine x_ret (va_runS (As := [.int (nI k), .int (nI j)]) (rest := [.ref hr]) S (mr_route l k j) (va_cwS 2 hts (lw_S q1170 q1171 q69 q1172) rfl rfl rfl hdX3_route ⟨Nat.le_of_ble_eq_true rfl, Nat.le_of_ble_eq_true rfl⟩) ⟨bb_blind tt_bl _, tt_pre _⟩ rfl rfl hl.1 rfl (lv_room (Nat.le_of_ble_eq_true rfl)) dX3_server_65 ⟨Nat.le_refl _, Nat.le_refl _⟩) ?_
          refine x_iald hx hb K hP 1 0 rfl rfl (21 + 8 * k + j) rfl (by omega) (by decide) rfl dX3_server_68 ?_
          refine lv_aload_n hx hb dX3_server_69 rfl (lv_at hl 1 rfl) ?_
          refine va_get (D := D) (ci := 3) (C := RX3) (T := TX3) (N := 10) hx hb hts in_X3 hown K hP 0 rfl rfl 0 (by decide) (hts _ q1075) (fun _ h9 => h9) rfl dX3_server_70 ?_
          refine lv_iload_n hx hb dX3_server_73 rfl (lv_at hl 4 rfl) ?_
          refine x_top (y := nI v_9) (by rw [h_8]; rfl) ?_
          refine lv_iload_n hx hb dX3_server_74 rfl (lv_at hl 3 rfl) ?_
          refine x_ret (va_runS (As := [.int (nI v_9), .int (nI j)]) (rest := [.ref hr, .int (row (21 + 8 * k + j))]) S (mr_route l v_9 j) (va_cwS 2 hts (lw_S q1170 q1171 q69 q1172) rfl rfl rfl hdX3_route ⟨Nat.le_of_ble_eq_true rfl, Nat.le_of_ble_eq_true rfl⟩) ⟨bb_blind tt_bl _, tt_pre _⟩ rfl rfl hl.1 rfl (lv_room (Nat.le_of_ble_eq_true rfl)) dX3_server_75 ⟨Nat.le_refl _, Nat.le_refl _⟩) ?_
          refine x_iald hx hb K hP 1 0 rfl rfl (21 + 8 * v_9 + j) rfl (by have := hbd _ h_8; omega) (by decide) rfl dX3_server_78 ?_
          refine lv_icmp_ge (tgt := 87) hx hb dX3_server_79 (by decide) (fun h_10 => ?_) (fun h_10 => ?_)
          · refine lv_iload_n hx hb dX3_server_87 rfl (lv_at hl 4 rfl) ?_
            refine x_top (y := nI v_9) (by rw [h_8]; rfl) ?_
            refine lv_istore_n (lv' := [(3, .int (nI v_9)), (5, .int (nI 1)), (0, .ref h0), (1, .int (nI pl)), (2, .int (nI j)), (4, .int (nI k))]) hx hb dX3_server_88 rfl hl (by decide) rfl (fun ls hl => ?_)
            refine lv_iinc (v := nI (k + 1)) (lv' := [(4, .int (nI (k + 1))), (3, .int (nI v_9)), (5, .int (nI 1)), (0, .ref h0), (1, .int (nI pl)), (2, .int (nI j))]) hx hb dX3_server_89 hl (k := 5) rfl (nI_1 k) (by decide) rfl (fun ls hl => ?_)
            refine lv_goto (tgt := 6) hx hb dX3_server_92 (by decide) ?_
            refine ih ls ?_
            show lv_has ls 6 [(0, .ref h0), (1, .int (nI pl)), (2, .int (nI j)), (3, .int (oI ((mSvS row pl j) k a))), (4, .int (nI (k + 1)))]
            rw [show oI ((mSvS row pl j) k a) = nI v_9 from (by simp [mSvS, oI_s, oI_n, h_3, h_5, h_8, h_10])]
            exact lv_sub hl [3, 4, 5, 1, 0] rfl
          · refine lv_iload hx hb dX3_server_82 (lv_at hl 5 rfl) ?_
            refine lv_goto (tgt := 88) hx hb dX3_server_84 (by decide) ?_
            refine lv_istore_n (lv' := [(3, .int (nI k)), (5, .int (nI 1)), (0, .ref h0), (1, .int (nI pl)), (2, .int (nI j)), (4, .int (nI k))]) hx hb dX3_server_88 rfl hl (by decide) rfl (fun ls hl => ?_)
            refine lv_iinc (v := nI (k + 1)) (lv' := [(4, .int (nI (k + 1))), (3, .int (nI k)), (5, .int (nI 1)), (0, .ref h0), (1, .int (nI pl)), (2, .int (nI j))]) hx hb dX3_server_89 hl (k := 5) rfl (nI_1 k) (by decide) rfl (fun ls hl => ?_)
            refine lv_goto (tgt := 6) hx hb dX3_server_92 (by decide) ?_
            refine ih ls ?_
            show lv_has ls 6 [(0, .ref h0), (1, .int (nI pl)), (2, .int (nI j)), (3, .int (oI ((mSvS row pl j) k a))), (4, .int (nI (k + 1)))]
            rw [show oI ((mSvS row pl j) k a) = nI k from (by simp [mSvS, oI_s, oI_n, h_3, h_5, h_8, h_10])]
            exact lv_sub hl [3, 4, 5, 1, 0] rfl
  · intro ls hl
    have hl : lv_has ls 6 [(0, .ref h0), (1, .int (nI pl)), (2, .int (nI j)), (3, .int (oI (mServer row n pl j))), (4, .int (nI n))] := hl
    show W p l e (rmR 1 40) s m ([.ref h0, .int (nI pl), .int (nI j)]).toArray below meth c s.heap [] 0 0 (MQ below (QRet (some (.int (oI (mServer row n pl j))))) ([.ref h0, .int (nI pl), .int (nI j)]).toArray s 0 0 (fun _ => False)) (F0 m 6 ls [])
    refine lv_iload hx hb dX3_server_6 (lv_at hl 4 rfl) ?_
    refine lv_aload_n hx hb dX3_server_8 rfl (lv_at hl 0 rfl) ?_
    refine va_get (D := D) (ci := 3) (C := RX3) (T := TX3) (N := 10) hx hb hts in_X3 hown K hP 0 rfl rfl 0 (by decide) (hts _ q1075) (fun _ h9 => h9) rfl dX3_server_9 ?_
    refine lv_iconst (v := nI 0) hx hb dX3_server_12 (by decide) ?_
    refine x_iald hx hb K hP 1 0 rfl rfl 0 rfl (by omega) (by decide) e0 dX3_server_13 ?_
    refine lv_icmp_ge (tgt := 95) hx hb dX3_server_14 (by decide) (fun _ => ?_) (fun h => absurd (nI_le (by omega) (by omega)) h)
    refine lv_iload_n hx hb dX3_server_95 rfl (lv_at hl 3 rfl) ?_
    exact x_iret hx hb hrt hlk rfl dX3_server_96

set_option maxHeartbeats 4000000 in
theorem mr_prices (l : Launch) (D : va_G) (dA : Nat → ClassId) (h0 hr : Nat) (fs : List Value) (row : Nat → Int32) {n cu q : Nat} (w : MWf row n cu q) (pl : Nat) (hp : pl < 128) : RO l yX3_prices cX3_prices 4 (some .int) 1 40 [.ref h0, .int (nI pl)] (KA D dA) (MRo D dA h0 hr fs row) (some (.int (mPrices row n pl))) := by
  refine ro_of (by decide) (Nat.le_of_ble_eq_true rfl) ?_
  intro p e s m below meth c S hrt hlk K hP ls hl
  obtain ⟨hx, hb, hml, hown, hts⟩ := id S
  obtain ⟨e0, hn, e1, hcu, e3, hq, hray⟩ := id w
  have hl : lv_has ls 4 [(0, .ref h0), (1, .int (nI pl))] := hl
  refine lv_iconst (v := nI 0) hx hb dX3_prices_0 (by decide) ?_
  refine lv_istore_n (lv' := [(2, .int (nI 0)), (0, .ref h0), (1, .int (nI pl))]) hx hb dX3_prices_1 rfl hl (by decide) rfl (fun ls hl => ?_)
  refine lv_iconst (v := nI 0) hx hb dX3_prices_2 (by decide) ?_
  refine lv_istore_n (lv' := [(3, .int (nI 0)), (2, .int (nI 0)), (0, .ref h0), (1, .int (nI pl))]) hx hb dX3_prices_3 rfl hl (by decide) rfl (fun ls hl => ?_)
  refine lpI (mPrS row pl) (nI 0) n (fun k a ls => lv_has ls 4 [(0, .ref h0), (1, .int (nI pl)), (2, .int a), (3, .int (nI k))]) (fun ls => W p l e (rmR 1 40) s m ([.ref h0, .int (nI pl)]).toArray below meth c s.heap [] 0 0 (MQ below (QRet (some (.int (mPrices row n pl)))) ([.ref h0, .int (nI pl)]).toArray s 0 0 (fun _ => False)) (F0 m 4 ls [])) ?_ ?_ ls (lv_sub hl [2, 3, 1, 0] rfl)
  · intro k ls hk_1 hl ih
    generalize iter (mPrS row pl) k 0 (nI 0) = a at *
    have hl : lv_has ls 4 [(0, .ref h0), (1, .int (nI pl)), (2, .int a), (3, .int (nI k))] := hl
    show W p l e (rmR 1 40) s m ([.ref h0, .int (nI pl)]).toArray below meth c s.heap [] 0 0 (MQ below (QRet (some (.int (mPrices row n pl)))) ([.ref h0, .int (nI pl)]).toArray s 0 0 (fun _ => False)) (F0 m 4 ls [])
    refine lv_iload_n hx hb dX3_prices_4 rfl (lv_at hl 3 rfl) ?_
    refine lv_aload_n hx hb dX3_prices_5 rfl (lv_at hl 0 rfl) ?_
    refine va_get (D := D) (ci := 3) (C := RX3) (T := TX3) (N := 10) hx hb hts in_X3 hown K hP 0 rfl rfl 0 (by decide) (hts _ q1075) (fun _ h9 => h9) rfl dX3_prices_6 ?_
    refine lv_iconst (v := nI 0) hx hb dX3_prices_9 (by decide) ?_
    refine x_iald hx hb K hP 1 0 rfl rfl 0 rfl (by omega) (by decide) e0 dX3_prices_10 ?_
    refine lv_icmp_ge (tgt := 44) hx hb dX3_prices_11 (by decide) (fun h => absurd h (nI_ge hk_1 (by omega))) (fun _ => ?_)
    refine lv_iload_n hx hb dX3_prices_14 rfl (lv_at hl 2 rfl) ?_
    refine lv_iload_n hx hb dX3_prices_15 rfl (lv_at hl 1 rfl) ?_
    refine lv_iload_n hx hb dX3_prices_16 rfl (lv_at hl 3 rfl) ?_
    refine x_ret (va_runS (As := [.int (nI pl), .int (nI k)]) (rest := [.int a]) S (mr_isIn l pl k (by omega) (by omega)) (va_cwS 2 hts (lw_S q1181 q1182 q69 q1183) rfl rfl rfl hdX3_isIn ⟨Nat.le_of_ble_eq_true rfl, Nat.le_of_ble_eq_true rfl⟩) ⟨bb_blind tt_bl _, tt_pre _⟩ rfl rfl hl.1 rfl (lv_room (Nat.le_of_ble_eq_true rfl)) dX3_prices_17 ⟨Nat.le_refl _, Nat.le_refl _⟩) ?_
    refine x_ifb_eq (tgt := 35) hx hb dX3_prices_20 (by decide) (fun h_3 => ?_) (fun h_3 => ?_)
    · refine lv_iconst (v := nI 0) hx hb dX3_prices_35 (by decide) ?_
      refine lv_iadd hx hb dX3_prices_36 ?_
      refine lv_istore_n (lv' := [(2, .int (a + (nI 0))), (0, .ref h0), (1, .int (nI pl)), (3, .int (nI k))]) hx hb dX3_prices_37 rfl hl (by decide) rfl (fun ls hl => ?_)
      refine lv_iinc (v := nI (k + 1)) (lv' := [(3, .int (nI (k + 1))), (2, .int (a + (nI 0))), (0, .ref h0), (1, .int (nI pl))]) hx hb dX3_prices_38 hl (k := 3) rfl (nI_1 k) (by decide) rfl (fun ls hl => ?_)
      refine lv_goto (tgt := 4) hx hb dX3_prices_41 (by decide) ?_
      refine ih ls ?_
      show lv_has ls 4 [(0, .ref h0), (1, .int (nI pl)), (2, .int ((mPrS row pl) k a)), (3, .int (nI (k + 1)))]
      rw [show (mPrS row pl) k a = a + (nI 0) from (by simp [mPrS, h_3])]
      exact lv_sub hl [2, 3, 1, 0] rfl
    · refine lv_aload_n hx hb dX3_prices_23 rfl (lv_at hl 0 rfl) ?_
      refine va_get (D := D) (ci := 3) (C := RX3) (T := TX3) (N := 10) hx hb hts in_X3 hown K hP 0 rfl rfl 0 (by decide) (hts _ q1075) (fun _ h9 => h9) rfl dX3_prices_24 ?_
      refine lv_bipush (v := nI 6) hx hb dX3_prices_27 (by decide) ?_
      refine lv_iload_n hx hb dX3_prices_29 rfl (lv_at hl 3 rfl) ?_
      refine x_addN hx hb dX3_prices_30 ?_
      refine x_iald hx hb K hP 1 0 rfl rfl (6 + k) rfl (by omega) (by decide) rfl dX3_prices_31 ?_
      refine lv_goto (tgt := 36) hx hb dX3_prices_32 (by decide) ?_
      refine lv_iadd hx hb dX3_prices_36 ?_
      refine lv_istore_n (lv' := [(2, .int (a + (row (6 + k)))), (0, .ref h0), (1, .int (nI pl)), (3, .int (nI k))]) hx hb dX3_prices_37 rfl hl (by decide) rfl (fun ls hl => ?_)
      refine lv_iinc (v := nI (k + 1)) (lv' := [(3, .int (nI (k + 1))), (2, .int (a + (row (6 + k)))), (0, .ref h0), (1, .int (nI pl))]) hx hb dX3_prices_38 hl (k := 3) rfl (nI_1 k) (by decide) rfl (fun ls hl => ?_)
      refine lv_goto (tgt := 4) hx hb dX3_prices_41 (by decide) ?_
      refine ih ls ?_
      show lv_has ls 4 [(0, .ref h0), (1, .int (nI pl)), (2, .int ((mPrS row pl) k a)), (3, .int (nI (k + 1)))]
      rw [show (mPrS row pl) k a = a + (row (6 + k)) from (by simp [mPrS, h_3])]
      exact lv_sub hl [2, 3, 1, 0] rfl
  · intro ls hl
    have hl : lv_has ls 4 [(0, .ref h0), (1, .int (nI pl)), (2, .int (mPrices row n pl)), (3, .int (nI n))] := hl
    show W p l e (rmR 1 40) s m ([.ref h0, .int (nI pl)]).toArray below meth c s.heap [] 0 0 (MQ below (QRet (some (.int (mPrices row n pl)))) ([.ref h0, .int (nI pl)]).toArray s 0 0 (fun _ => False)) (F0 m 4 ls [])
    refine lv_iload_n hx hb dX3_prices_4 rfl (lv_at hl 3 rfl) ?_
    refine lv_aload_n hx hb dX3_prices_5 rfl (lv_at hl 0 rfl) ?_
    refine va_get (D := D) (ci := 3) (C := RX3) (T := TX3) (N := 10) hx hb hts in_X3 hown K hP 0 rfl rfl 0 (by decide) (hts _ q1075) (fun _ h9 => h9) rfl dX3_prices_6 ?_
    refine lv_iconst (v := nI 0) hx hb dX3_prices_9 (by decide) ?_
    refine x_iald hx hb K hP 1 0 rfl rfl 0 rfl (by omega) (by decide) e0 dX3_prices_10 ?_
    refine lv_icmp_ge (tgt := 44) hx hb dX3_prices_11 (by decide) (fun _ => ?_) (fun h => absurd (nI_le (by omega) (by omega)) h)
    refine lv_iload_n hx hb dX3_prices_44 rfl (lv_at hl 2 rfl) ?_
    exact x_iret hx hb hrt hlk rfl dX3_prices_45

set_option maxHeartbeats 4000000 in
theorem mr_routes (l : Launch) (D : va_G) (dA : Nat → ClassId) (h0 hr : Nat) (fs : List Value) (row : Nat → Int32) {n cu q : Nat} (w : MWf row n cu q) (pl : Nat) (hp : pl < 128) (hsv : ∀ c, c < cu → ∃ s, mServer row n pl c = some s) : RO l yX3_routes cX3_routes 4 (some .int) 2 80 [.ref h0, .int (nI pl)] (KA D dA) (MRo D dA h0 hr fs row) (some (.int (mRoutes row n cu pl))) := by
  refine ro_of (by decide) (Nat.le_of_ble_eq_true rfl) ?_
  intro p e s m below meth c S hrt hlk K hP ls hl
  obtain ⟨hx, hb, hml, hown, hts⟩ := id S
  obtain ⟨e0, hn, e1, hcu, e3, hq, hray⟩ := id w
  have hl : lv_has ls 4 [(0, .ref h0), (1, .int (nI pl))] := hl
  refine lv_iconst (v := nI 0) hx hb dX3_routes_0 (by decide) ?_
  refine lv_istore_n (lv' := [(2, .int (nI 0)), (0, .ref h0), (1, .int (nI pl))]) hx hb dX3_routes_1 rfl hl (by decide) rfl (fun ls hl => ?_)
  refine lv_iconst (v := nI 0) hx hb dX3_routes_2 (by decide) ?_
  refine lv_istore_n (lv' := [(3, .int (nI 0)), (2, .int (nI 0)), (0, .ref h0), (1, .int (nI pl))]) hx hb dX3_routes_3 rfl hl (by decide) rfl (fun ls hl => ?_)
  refine lpI (mRoS row n pl) (nI 0) cu (fun k a ls => lv_has ls 4 [(0, .ref h0), (1, .int (nI pl)), (2, .int a), (3, .int (nI k))]) (fun ls => W p l e (rmR 2 80) s m ([.ref h0, .int (nI pl)]).toArray below meth c s.heap [] 0 0 (MQ below (QRet (some (.int (mRoutes row n cu pl)))) ([.ref h0, .int (nI pl)]).toArray s 0 0 (fun _ => False)) (F0 m 4 ls [])) ?_ ?_ ls (lv_sub hl [2, 3, 1, 0] rfl)
  · intro k ls hk_1 hl ih
    obtain ⟨sv, hsk⟩ := hsv k hk_1
    have hsl := mServer_lt hsk
    generalize iter (mRoS row n pl) k 0 (nI 0) = a at *
    have hl : lv_has ls 4 [(0, .ref h0), (1, .int (nI pl)), (2, .int a), (3, .int (nI k))] := hl
    show W p l e (rmR 2 80) s m ([.ref h0, .int (nI pl)]).toArray below meth c s.heap [] 0 0 (MQ below (QRet (some (.int (mRoutes row n cu pl)))) ([.ref h0, .int (nI pl)]).toArray s 0 0 (fun _ => False)) (F0 m 4 ls [])
    refine lv_iload_n hx hb dX3_routes_4 rfl (lv_at hl 3 rfl) ?_
    refine lv_aload_n hx hb dX3_routes_5 rfl (lv_at hl 0 rfl) ?_
    refine va_get (D := D) (ci := 3) (C := RX3) (T := TX3) (N := 10) hx hb hts in_X3 hown K hP 0 rfl rfl 0 (by decide) (hts _ q1075) (fun _ h9 => h9) rfl dX3_routes_6 ?_
    refine lv_iconst (v := nI 1) hx hb dX3_routes_9 (by decide) ?_
    refine x_iald hx hb K hP 1 0 rfl rfl 1 rfl (by omega) (by decide) e1 dX3_routes_10 ?_
    refine lv_icmp_ge (tgt := 48) hx hb dX3_routes_11 (by decide) (fun h => absurd h (nI_ge hk_1 (by omega))) (fun _ => ?_)
    refine lv_iload_n hx hb dX3_routes_14 rfl (lv_at hl 2 rfl) ?_
    refine lv_aload_n hx hb dX3_routes_15 rfl (lv_at hl 0 rfl) ?_
    refine va_get (D := D) (ci := 3) (C := RX3) (T := TX3) (N := 10) hx hb hts in_X3 hown K hP 0 rfl rfl 0 (by decide) (hts _ q1075) (fun _ h9 => h9) rfl dX3_routes_16 ?_
    refine lv_bipush (v := nI 13) hx hb dX3_routes_19 (by decide) ?_
    refine lv_iload_n hx hb dX3_routes_21 rfl (lv_at hl 3 rfl) ?_
    refine x_addN hx hb dX3_routes_22 ?_
    refine x_iald hx hb K hP 1 0 rfl rfl (13 + k) rfl (by omega) (by decide) rfl dX3_routes_23 ?_
    refine lv_aload_n hx hb dX3_routes_24 rfl (lv_at hl 0 rfl) ?_
    refine va_get (D := D) (ci := 3) (C := RX3) (T := TX3) (N := 10) hx hb hts in_X3 hown K hP 0 rfl rfl 0 (by decide) (hts _ q1075) (fun _ h9 => h9) rfl dX3_routes_25 ?_
    refine lv_aload_n hx hb dX3_routes_28 rfl (lv_at hl 0 rfl) ?_
    refine lv_iload_n hx hb dX3_routes_29 rfl (lv_at hl 1 rfl) ?_
    refine lv_iload_n hx hb dX3_routes_30 rfl (lv_at hl 3 rfl) ?_
    refine x_ret (va_runV (As := [.int (nI pl), .int (nI k)]) (rest := [.ref hr, .int (row (13 + k)), .int a]) S (mr_server l D dA h0 hr fs row w pl k (by omega) (by omega)) (cwV 2 hts (lw_V q1247 q1249 qs45 q69 q1250) rfl rfl rfl hdX3_server ⟨Nat.le_of_ble_eq_true rfl, Nat.le_of_ble_eq_true rfl⟩) ⟨bb_blind ka_bl _, va_recv K hP (ci := 3) (q0 := 0) rfl rfl, ka_pre K hP _⟩ rfl rfl hl.1 rfl (lv_room (Nat.le_of_ble_eq_true rfl)) dX3_routes_31 ⟨Nat.le_refl _, Nat.le_refl _⟩) ?_
    refine x_top (y := nI sv) (by rw [hsk]; rfl) ?_
    refine lv_iload_n hx hb dX3_routes_34 rfl (lv_at hl 3 rfl) ?_
    refine x_ret (va_runS (As := [.int (nI sv), .int (nI k)]) (rest := [.ref hr, .int (row (13 + k)), .int a]) S (mr_route l sv k) (va_cwS 2 hts (lw_S q1170 q1171 q69 q1172) rfl rfl rfl hdX3_route ⟨Nat.le_of_ble_eq_true rfl, Nat.le_of_ble_eq_true rfl⟩) ⟨bb_blind tt_bl _, tt_pre _⟩ rfl rfl hl.1 rfl (lv_room (Nat.le_of_ble_eq_true rfl)) dX3_routes_35 ⟨Nat.le_refl _, Nat.le_refl _⟩) ?_
    refine x_iald hx hb K hP 1 0 rfl rfl (21 + 8 * sv + k) rfl (by omega) (by decide) rfl dX3_routes_38 ?_
    refine lv_imul hx hb dX3_routes_39 ?_
    refine lv_iadd hx hb dX3_routes_40 ?_
    refine lv_istore_n (lv' := [(2, .int (a + ((row (13 + k)) * (row (21 + 8 * sv + k))))), (0, .ref h0), (1, .int (nI pl)), (3, .int (nI k))]) hx hb dX3_routes_41 rfl hl (by decide) rfl (fun ls hl => ?_)
    refine lv_iinc (v := nI (k + 1)) (lv' := [(3, .int (nI (k + 1))), (2, .int (a + ((row (13 + k)) * (row (21 + 8 * sv + k))))), (0, .ref h0), (1, .int (nI pl))]) hx hb dX3_routes_42 hl (k := 3) rfl (nI_1 k) (by decide) rfl (fun ls hl => ?_)
    refine lv_goto (tgt := 4) hx hb dX3_routes_45 (by decide) ?_
    refine ih ls ?_
    show lv_has ls 4 [(0, .ref h0), (1, .int (nI pl)), (2, .int ((mRoS row n pl) k a)), (3, .int (nI (k + 1)))]
    rw [show (mRoS row n pl) k a = a + ((row (13 + k)) * (row (21 + 8 * sv + k))) from (by simp [mRoS, hsk])]
    exact lv_sub hl [2, 3, 1, 0] rfl
  · intro ls hl
    have hl : lv_has ls 4 [(0, .ref h0), (1, .int (nI pl)), (2, .int (mRoutes row n cu pl)), (3, .int (nI cu))] := hl
    show W p l e (rmR 2 80) s m ([.ref h0, .int (nI pl)]).toArray below meth c s.heap [] 0 0 (MQ below (QRet (some (.int (mRoutes row n cu pl)))) ([.ref h0, .int (nI pl)]).toArray s 0 0 (fun _ => False)) (F0 m 4 ls [])
    refine lv_iload_n hx hb dX3_routes_4 rfl (lv_at hl 3 rfl) ?_
    refine lv_aload_n hx hb dX3_routes_5 rfl (lv_at hl 0 rfl) ?_
    refine va_get (D := D) (ci := 3) (C := RX3) (T := TX3) (N := 10) hx hb hts in_X3 hown K hP 0 rfl rfl 0 (by decide) (hts _ q1075) (fun _ h9 => h9) rfl dX3_routes_6 ?_
    refine lv_iconst (v := nI 1) hx hb dX3_routes_9 (by decide) ?_
    refine x_iald hx hb K hP 1 0 rfl rfl 1 rfl (by omega) (by decide) e1 dX3_routes_10 ?_
    refine lv_icmp_ge (tgt := 48) hx hb dX3_routes_11 (by decide) (fun _ => ?_) (fun h => absurd (nI_le (by omega) (by omega)) h)
    refine lv_iload_n hx hb dX3_routes_48 rfl (lv_at hl 2 rfl) ?_
    exact x_iret hx hb hrt hlk rfl dX3_routes_49

set_option maxHeartbeats 4000000 in
theorem mr_isFeasible (l : Launch) (D : va_G) (dA : Nat → ClassId) (h0 hr : Nat) (fs : List Value) (row : Nat → Int32) {n cu q : Nat} (w : MWf row n cu q) (pl : Nat) (hp : pl < 128) : RO l yX3_isFeasible cX3_isFeasible 2 (some .boolean) 3 120 [.ref h0, .int (nI pl)] (KA D dA) (MRo D dA h0 hr fs row) (some (.int (bI (mFeas row n cu pl)))) := by
  refine ro_of (by decide) (Nat.le_of_ble_eq_true rfl) ?_
  intro p e s m below meth c S hrt hlk K hP ls hl
  obtain ⟨hx, hb, hml, hown, hts⟩ := id S
  obtain ⟨e0, hn, e1, hcu, e3, hq, hray⟩ := id w
  have hl : lv_has ls 2 [(0, .ref h0), (1, .int (nI pl))] := hl
  refine lv_aload_n hx hb dX3_isFeasible_0 rfl (lv_at hl 0 rfl) ?_
  refine lv_iload_n hx hb dX3_isFeasible_1 rfl (lv_at hl 1 rfl) ?_
  refine x_ret (va_runV (As := [.int (nI pl)]) (rest := []) S (mr_isAllowed l D dA h0 hr fs row w pl (by omega)) (cwV 1 hts (lw_V q1199 q1201 qs33 q69 q1202) rfl rfl rfl hdX3_isAllowed ⟨Nat.le_of_ble_eq_true rfl, Nat.le_of_ble_eq_true rfl⟩) ⟨bb_blind ka_bl _, va_recv K hP (ci := 3) (q0 := 0) rfl rfl, ka_pre K hP _⟩ rfl rfl hl.1 rfl (lv_room (Nat.le_of_ble_eq_true rfl)) dX3_isFeasible_2 ⟨Nat.le_refl _, Nat.le_refl _⟩) ?_
  refine x_ifb_eq (tgt := 20) hx hb dX3_isFeasible_5 (by decide) (fun h_1 => ?_) (fun h_1 => ?_)
  · refine lv_iconst (v := nI 0) hx hb dX3_isFeasible_20 (by decide) ?_
    exact x_zret hx hb hrt hlk (by simp [mFeas, bI, nI_0, nI_1l, h_1]) dX3_isFeasible_21
  · refine lv_aload_n hx hb dX3_isFeasible_8 rfl (lv_at hl 0 rfl) ?_
    refine lv_iload_n hx hb dX3_isFeasible_9 rfl (lv_at hl 1 rfl) ?_
    refine x_ret (va_runV (As := [.int (nI pl)]) (rest := []) S (mr_missed l D dA h0 hr fs row w pl (by omega)) (cwV 1 hts (lw_V q1239 q1241 qs43 q69 q1242) rfl rfl rfl hdX3_missed ⟨Nat.le_of_ble_eq_true rfl, Nat.le_of_ble_eq_true rfl⟩) ⟨bb_blind ka_bl _, va_recv K hP (ci := 3) (q0 := 0) rfl rfl, ka_pre K hP _⟩ rfl rfl hl.1 rfl (lv_room (Nat.le_of_ble_eq_true rfl)) dX3_isFeasible_10 ⟨Nat.le_refl _, Nat.le_refl _⟩) ?_
    refine x_ifo_ge (tgt := 20) hx hb dX3_isFeasible_13 (by decide) (fun b hb => by have := mMissed_lt hb; omega) (fun v_3 h_2 => ?_) (fun h_2 => ?_)
    · refine lv_iconst (v := nI 0) hx hb dX3_isFeasible_20 (by decide) ?_
      exact x_zret hx hb hrt hlk (by simp [mFeas, bI, nI_0, nI_1l, h_1, h_2]) dX3_isFeasible_21
    · refine lv_iconst (v := nI 1) hx hb dX3_isFeasible_16 (by decide) ?_
      refine lv_goto (tgt := 21) hx hb dX3_isFeasible_17 (by decide) ?_
      exact x_zret hx hb hrt hlk (by simp [mFeas, bI, nI_0, nI_1l, h_1, h_2]) dX3_isFeasible_21

set_option maxHeartbeats 4000000 in
theorem mr_isRay (l : Launch) (D : va_G) (dA : Nat → ClassId) (h0 hr : Nat) (fs : List Value) (row : Nat → Int32) {n cu q : Nat} (w : MWf row n cu q) (k : Nat) (hk : k < 40) : RO l yX3_isRay cX3_isRay 2 (some .boolean) 0 0 [.ref h0, .int (nI k)] (KA D dA) (MRo D dA h0 hr fs row) (some (.int (bI (mRay row k)))) := by
  refine ro_of (by decide) (Nat.le_of_ble_eq_true rfl) ?_
  intro p e s m below meth c S hrt hlk K hP ls hl
  obtain ⟨hx, hb, hml, hown, hts⟩ := id S
  obtain ⟨e0, hn, e1, hcu, e3, hq, hray⟩ := id w
  have hl : lv_has ls 2 [(0, .ref h0), (1, .int (nI k))] := hl
  refine lv_aload_n hx hb dX3_isRay_0 rfl (lv_at hl 0 rfl) ?_
  refine va_get (D := D) (ci := 3) (C := RX3) (T := TX3) (N := 10) hx hb hts in_X3 hown K hP 0 rfl rfl 0 (by decide) (hts _ q1075) (fun _ h9 => h9) rfl dX3_isRay_1 ?_
  refine lv_bipush (v := nI 84) hx hb dX3_isRay_4 (by decide) ?_
  refine lv_bipush (v := nI 9) hx hb dX3_isRay_6 (by decide) ?_
  refine lv_iload_n hx hb dX3_isRay_8 rfl (lv_at hl 1 rfl) ?_
  refine x_mulN hx hb dX3_isRay_9 ?_
  refine x_addN hx hb dX3_isRay_10 ?_
  refine x_iald hx hb K hP 1 0 rfl rfl (84 + (9 * k)) rfl (by omega) (by decide) rfl dX3_isRay_11 ?_
  refine lv_if_lt (tgt := 19) hx hb dX3_isRay_12 (by decide) (fun h_1 => ?_) (fun h_1 => ?_)
  · refine lv_iconst (v := nI 0) hx hb dX3_isRay_19 (by decide) ?_
    exact x_zret hx hb hrt hlk (by simp [mRay, bI, nI_0, nI_1l, h_1]) dX3_isRay_20
  · refine lv_iconst (v := nI 1) hx hb dX3_isRay_15 (by decide) ?_
    refine lv_goto (tgt := 20) hx hb dX3_isRay_16 (by decide) ?_
    exact x_zret hx hb hrt hlk (by simp [mRay, bI, nI_0, nI_1l, h_1]) dX3_isRay_20

set_option maxHeartbeats 4000000 in
theorem mr_weightOf (l : Launch) (D : va_G) (dA : Nat → ClassId) (h0 hr : Nat) (fs : List Value) (row : Nat → Int32) {n cu q : Nat} (w : MWf row n cu q) (kc s0 : Nat) (hkc : kc < 40) (hs0 : s0 < 7) : RO l yX3_weightOf cX3_weightOf 6 (some .int) 1 40 [.ref h0, .int (nI kc), .int (nI s0)] (KA D dA) (MRo D dA h0 hr fs row) (some (.int (mWeight row cu kc s0))) := by
  refine ro_of (by decide) (Nat.le_of_ble_eq_true rfl) ?_
  intro p e s m below meth c S hrt hlk K hP ls hl
  obtain ⟨hx, hb, hml, hown, hts⟩ := id S
  obtain ⟨e0, hn, e1, hcu, e3, hq, hray⟩ := id w
  have hl : lv_has ls 6 [(0, .ref h0), (1, .int (nI kc)), (2, .int (nI s0))] := hl
  refine lv_iconst (v := nI 0) hx hb dX3_weightOf_0 (by decide) ?_
  refine lv_istore_n (lv' := [(3, .int (nI 0)), (0, .ref h0), (1, .int (nI kc)), (2, .int (nI s0))]) hx hb dX3_weightOf_1 rfl hl (by decide) rfl (fun ls hl => ?_)
  refine lv_iconst (v := nI 0) hx hb dX3_weightOf_2 (by decide) ?_
  refine lv_istore (lv' := [(4, .int (nI 0)), (3, .int (nI 0)), (0, .ref h0), (1, .int (nI kc)), (2, .int (nI s0))]) hx hb dX3_weightOf_3 hl (by decide) rfl (fun ls hl => ?_)
  refine lpI (mWtS row kc s0) (nI 0) cu (fun k a ls => lv_has ls 6 [(0, .ref h0), (1, .int (nI kc)), (2, .int (nI s0)), (3, .int a), (4, .int (nI k))]) (fun ls => W p l e (rmR 1 40) s m ([.ref h0, .int (nI kc), .int (nI s0)]).toArray below meth c s.heap [] 0 0 (MQ below (QRet (some (.int (mWeight row cu kc s0)))) ([.ref h0, .int (nI kc), .int (nI s0)]).toArray s 0 0 (fun _ => False)) (F0 m 5 ls [])) ?_ ?_ ls (lv_sub hl [2, 3, 4, 1, 0] rfl)
  · intro k ls hk_1 hl ih
    generalize iter (mWtS row kc s0) k 0 (nI 0) = a at *
    have hl : lv_has ls 6 [(0, .ref h0), (1, .int (nI kc)), (2, .int (nI s0)), (3, .int a), (4, .int (nI k))] := hl
    show W p l e (rmR 1 40) s m ([.ref h0, .int (nI kc), .int (nI s0)]).toArray below meth c s.heap [] 0 0 (MQ below (QRet (some (.int (mWeight row cu kc s0)))) ([.ref h0, .int (nI kc), .int (nI s0)]).toArray s 0 0 (fun _ => False)) (F0 m 5 ls [])
    refine lv_iload hx hb dX3_weightOf_5 (lv_at hl 4 rfl) ?_
    refine lv_aload_n hx hb dX3_weightOf_7 rfl (lv_at hl 0 rfl) ?_
    refine va_get (D := D) (ci := 3) (C := RX3) (T := TX3) (N := 10) hx hb hts in_X3 hown K hP 0 rfl rfl 0 (by decide) (hts _ q1075) (fun _ h9 => h9) rfl dX3_weightOf_8 ?_
    refine lv_iconst (v := nI 1) hx hb dX3_weightOf_11 (by decide) ?_
    refine x_iald hx hb K hP 1 0 rfl rfl 1 rfl (by omega) (by decide) e1 dX3_weightOf_12 ?_
    refine lv_icmp_ge (tgt := 78) hx hb dX3_weightOf_13 (by decide) (fun h => absurd h (nI_ge hk_1 (by omega))) (fun _ => ?_)
    refine lv_aload_n hx hb dX3_weightOf_16 rfl (lv_at hl 0 rfl) ?_
    refine va_get (D := D) (ci := 3) (C := RX3) (T := TX3) (N := 10) hx hb hts in_X3 hown K hP 0 rfl rfl 0 (by decide) (hts _ q1075) (fun _ h9 => h9) rfl dX3_weightOf_17 ?_
    refine lv_bipush (v := nI 84) hx hb dX3_weightOf_20 (by decide) ?_
    refine lv_bipush (v := nI 9) hx hb dX3_weightOf_22 (by decide) ?_
    refine lv_iload_n hx hb dX3_weightOf_24 rfl (lv_at hl 1 rfl) ?_
    refine x_mulN hx hb dX3_weightOf_25 ?_
    refine x_addN hx hb dX3_weightOf_26 ?_
    refine lv_iconst (v := nI 1) hx hb dX3_weightOf_27 (by decide) ?_
    refine x_addN hx hb dX3_weightOf_28 ?_
    refine lv_iload hx hb dX3_weightOf_29 (lv_at hl 4 rfl) ?_
    refine x_addN hx hb dX3_weightOf_31 ?_
    refine x_iald hx hb K hP 1 0 rfl rfl (((84 + (9 * kc)) + 1) + k) rfl (by omega) (by decide) rfl dX3_weightOf_32 ?_
    refine lv_aload_n hx hb dX3_weightOf_33 rfl (lv_at hl 0 rfl) ?_
    refine va_get (D := D) (ci := 3) (C := RX3) (T := TX3) (N := 10) hx hb hts in_X3 hown K hP 0 rfl rfl 0 (by decide) (hts _ q1075) (fun _ h9 => h9) rfl dX3_weightOf_34 ?_
    refine lv_iload_n hx hb dX3_weightOf_37 rfl (lv_at hl 2 rfl) ?_
    refine lv_iload hx hb dX3_weightOf_38 (lv_at hl 4 rfl) ?_
    refine x_ret (va_runS (As := [.int (nI s0), .int (nI k)]) (rest := [.ref hr, .int (row (((84 + (9 * kc)) + 1) + k))]) S (mr_route l s0 k) (va_cwS 2 hts (lw_S q1170 q1171 q69 q1172) rfl rfl rfl hdX3_route ⟨Nat.le_of_ble_eq_true rfl, Nat.le_of_ble_eq_true rfl⟩) ⟨bb_blind tt_bl _, tt_pre _⟩ rfl rfl hl.1 rfl (lv_room (Nat.le_of_ble_eq_true rfl)) dX3_weightOf_40 ⟨Nat.le_refl _, Nat.le_refl _⟩) ?_
    refine x_iald hx hb K hP 1 0 rfl rfl (21 + 8 * s0 + k) rfl (by omega) (by decide) rfl dX3_weightOf_43 ?_
    refine lv_isub hx hb dX3_weightOf_44 ?_
    refine lv_istore (lv' := [(5, .int ((row (((84 + (9 * kc)) + 1) + k)) - (row (21 + 8 * s0 + k)))), (0, .ref h0), (1, .int (nI kc)), (2, .int (nI s0)), (3, .int a), (4, .int (nI k))]) hx hb dX3_weightOf_45 hl (by decide) rfl (fun ls hl => ?_)
    refine lv_iload_n hx hb dX3_weightOf_47 rfl (lv_at hl 4 rfl) ?_
    refine lv_iload hx hb dX3_weightOf_48 (lv_at hl 0 rfl) ?_
    refine lv_if_le (tgt := 69) hx hb dX3_weightOf_50 (by decide) (fun h_3 => ?_) (fun h_3 => ?_)
    · refine lv_iconst (v := nI 0) hx hb dX3_weightOf_69 (by decide) ?_
      refine lv_iadd hx hb dX3_weightOf_70 ?_
      refine lv_istore_n (lv' := [(3, .int (a + (nI 0))), (5, .int ((row (((84 + (9 * kc)) + 1) + k)) - (row (21 + 8 * s0 + k)))), (0, .ref h0), (1, .int (nI kc)), (2, .int (nI s0)), (4, .int (nI k))]) hx hb dX3_weightOf_71 rfl hl (by decide) rfl (fun ls hl => ?_)
      refine lv_iinc (v := nI (k + 1)) (lv' := [(4, .int (nI (k + 1))), (3, .int (a + (nI 0))), (5, .int ((row (((84 + (9 * kc)) + 1) + k)) - (row (21 + 8 * s0 + k)))), (0, .ref h0), (1, .int (nI kc)), (2, .int (nI s0))]) hx hb dX3_weightOf_72 hl (k := 5) rfl (nI_1 k) (by decide) rfl (fun ls hl => ?_)
      refine lv_goto (tgt := 5) hx hb dX3_weightOf_75 (by decide) ?_
      refine ih ls ?_
      show lv_has ls 6 [(0, .ref h0), (1, .int (nI kc)), (2, .int (nI s0)), (3, .int ((mWtS row kc s0) k a)), (4, .int (nI (k + 1)))]
      rw [show (mWtS row kc s0) k a = a + (nI 0) from (by simp [mWtS, h_3])]
      exact lv_sub hl [3, 4, 5, 1, 0] rfl
    · refine lv_aload_n hx hb dX3_weightOf_53 rfl (lv_at hl 1 rfl) ?_
      refine va_get (D := D) (ci := 3) (C := RX3) (T := TX3) (N := 10) hx hb hts in_X3 hown K hP 0 rfl rfl 0 (by decide) (hts _ q1075) (fun _ h9 => h9) rfl dX3_weightOf_54 ?_
      refine lv_bipush (v := nI 13) hx hb dX3_weightOf_57 (by decide) ?_
      refine lv_iload hx hb dX3_weightOf_59 (lv_at hl 5 rfl) ?_
      refine x_addN hx hb dX3_weightOf_61 ?_
      refine x_iald hx hb K hP 1 0 rfl rfl (13 + k) rfl (by omega) (by decide) rfl dX3_weightOf_62 ?_
      refine lv_iload hx hb dX3_weightOf_63 (lv_at hl 0 rfl) ?_
      refine lv_imul hx hb dX3_weightOf_65 ?_
      refine lv_goto (tgt := 70) hx hb dX3_weightOf_66 (by decide) ?_
      refine lv_iadd hx hb dX3_weightOf_70 ?_
      refine lv_istore_n (lv' := [(3, .int (a + ((row (13 + k)) * ((row (((84 + (9 * kc)) + 1) + k)) - (row (21 + 8 * s0 + k)))))), (5, .int ((row (((84 + (9 * kc)) + 1) + k)) - (row (21 + 8 * s0 + k)))), (0, .ref h0), (1, .int (nI kc)), (2, .int (nI s0)), (4, .int (nI k))]) hx hb dX3_weightOf_71 rfl hl (by decide) rfl (fun ls hl => ?_)
      refine lv_iinc (v := nI (k + 1)) (lv' := [(4, .int (nI (k + 1))), (3, .int (a + ((row (13 + k)) * ((row (((84 + (9 * kc)) + 1) + k)) - (row (21 + 8 * s0 + k)))))), (5, .int ((row (((84 + (9 * kc)) + 1) + k)) - (row (21 + 8 * s0 + k)))), (0, .ref h0), (1, .int (nI kc)), (2, .int (nI s0))]) hx hb dX3_weightOf_72 hl (k := 5) rfl (nI_1 k) (by decide) rfl (fun ls hl => ?_)
      refine lv_goto (tgt := 5) hx hb dX3_weightOf_75 (by decide) ?_
      refine ih ls ?_
      show lv_has ls 6 [(0, .ref h0), (1, .int (nI kc)), (2, .int (nI s0)), (3, .int ((mWtS row kc s0) k a)), (4, .int (nI (k + 1)))]
      rw [show (mWtS row kc s0) k a = a + ((row (13 + k)) * ((row (((84 + (9 * kc)) + 1) + k)) - (row (21 + 8 * s0 + k)))) from (by simp [mWtS, h_3])]
      exact lv_sub hl [3, 4, 5, 1, 0] rfl
  · intro ls hl
    have hl : lv_has ls 6 [(0, .ref h0), (1, .int (nI kc)), (2, .int (nI s0)), (3, .int (mWeight row cu kc s0)), (4, .int (nI cu))] := hl
    show W p l e (rmR 1 40) s m ([.ref h0, .int (nI kc), .int (nI s0)]).toArray below meth c s.heap [] 0 0 (MQ below (QRet (some (.int (mWeight row cu kc s0)))) ([.ref h0, .int (nI kc), .int (nI s0)]).toArray s 0 0 (fun _ => False)) (F0 m 5 ls [])
    refine lv_iload hx hb dX3_weightOf_5 (lv_at hl 4 rfl) ?_
    refine lv_aload_n hx hb dX3_weightOf_7 rfl (lv_at hl 0 rfl) ?_
    refine va_get (D := D) (ci := 3) (C := RX3) (T := TX3) (N := 10) hx hb hts in_X3 hown K hP 0 rfl rfl 0 (by decide) (hts _ q1075) (fun _ h9 => h9) rfl dX3_weightOf_8 ?_
    refine lv_iconst (v := nI 1) hx hb dX3_weightOf_11 (by decide) ?_
    refine x_iald hx hb K hP 1 0 rfl rfl 1 rfl (by omega) (by decide) e1 dX3_weightOf_12 ?_
    refine lv_icmp_ge (tgt := 78) hx hb dX3_weightOf_13 (by decide) (fun _ => ?_) (fun h => absurd (nI_le (by omega) (by omega)) h)
    refine lv_iload_n hx hb dX3_weightOf_78 rfl (lv_at hl 3 rfl) ?_
    exact x_iret hx hb hrt hlk rfl dX3_weightOf_79

set_option maxHeartbeats 4000000 in
theorem mr_valueOf (l : Launch) (D : va_G) (dA : Nat → ClassId) (h0 hr : Nat) (fs : List Value) (row : Nat → Int32) {n cu q : Nat} (w : MWf row n cu q) (kc pl : Nat) (hkc : kc < 40) (hp : pl < 128) : RO l yX3_valueOf cX3_valueOf 5 (some .int) 2 80 [.ref h0, .int (nI kc), .int (nI pl)] (KA D dA) (MRo D dA h0 hr fs row) (some (.int (mValue row n cu kc pl))) := by
  refine ro_of (by decide) (Nat.le_of_ble_eq_true rfl) ?_
  intro p e s m below meth c S hrt hlk K hP ls hl
  obtain ⟨hx, hb, hml, hown, hts⟩ := id S
  obtain ⟨e0, hn, e1, hcu, e3, hq, hray⟩ := id w
  have hl : lv_has ls 5 [(0, .ref h0), (1, .int (nI kc)), (2, .int (nI pl))] := hl
  refine lv_iconst (v := nI 0) hx hb dX3_valueOf_0 (by decide) ?_
  refine lv_istore_n (lv' := [(3, .int (nI 0)), (0, .ref h0), (1, .int (nI kc)), (2, .int (nI pl))]) hx hb dX3_valueOf_1 rfl hl (by decide) rfl (fun ls hl => ?_)
  refine lv_iconst (v := nI 0) hx hb dX3_valueOf_2 (by decide) ?_
  refine lv_istore (lv' := [(4, .int (nI 0)), (3, .int (nI 0)), (0, .ref h0), (1, .int (nI kc)), (2, .int (nI pl))]) hx hb dX3_valueOf_3 hl (by decide) rfl (fun ls hl => ?_)
  refine lpI (mCoS row kc) (nI 0) cu (fun k a ls => lv_has ls 5 [(0, .ref h0), (1, .int (nI kc)), (2, .int (nI pl)), (3, .int a), (4, .int (nI k))]) (fun ls => W p l e (rmR 2 80) s m ([.ref h0, .int (nI kc), .int (nI pl)]).toArray below meth c s.heap [] 0 0 (MQ below (QRet (some (.int (mValue row n cu kc pl)))) ([.ref h0, .int (nI kc), .int (nI pl)]).toArray s 0 0 (fun _ => False)) (F0 m 5 ls [])) ?_ ?_ ls (lv_sub hl [2, 3, 4, 1, 0] rfl)
  · intro k ls hk_1 hl ih
    generalize iter (mCoS row kc) k 0 (nI 0) = a at *
    have hl : lv_has ls 5 [(0, .ref h0), (1, .int (nI kc)), (2, .int (nI pl)), (3, .int a), (4, .int (nI k))] := hl
    show W p l e (rmR 2 80) s m ([.ref h0, .int (nI kc), .int (nI pl)]).toArray below meth c s.heap [] 0 0 (MQ below (QRet (some (.int (mValue row n cu kc pl)))) ([.ref h0, .int (nI kc), .int (nI pl)]).toArray s 0 0 (fun _ => False)) (F0 m 5 ls [])
    refine lv_iload hx hb dX3_valueOf_5 (lv_at hl 4 rfl) ?_
    refine lv_aload_n hx hb dX3_valueOf_7 rfl (lv_at hl 0 rfl) ?_
    refine va_get (D := D) (ci := 3) (C := RX3) (T := TX3) (N := 10) hx hb hts in_X3 hown K hP 0 rfl rfl 0 (by decide) (hts _ q1075) (fun _ h9 => h9) rfl dX3_valueOf_8 ?_
    refine lv_iconst (v := nI 1) hx hb dX3_valueOf_11 (by decide) ?_
    refine x_iald hx hb K hP 1 0 rfl rfl 1 rfl (by omega) (by decide) e1 dX3_valueOf_12 ?_
    refine lv_icmp_ge (tgt := 53) hx hb dX3_valueOf_13 (by decide) (fun h => absurd h (nI_ge hk_1 (by omega))) (fun _ => ?_)
    refine lv_iload_n hx hb dX3_valueOf_16 rfl (lv_at hl 3 rfl) ?_
    refine lv_aload_n hx hb dX3_valueOf_17 rfl (lv_at hl 0 rfl) ?_
    refine va_get (D := D) (ci := 3) (C := RX3) (T := TX3) (N := 10) hx hb hts in_X3 hown K hP 0 rfl rfl 0 (by decide) (hts _ q1075) (fun _ h9 => h9) rfl dX3_valueOf_18 ?_
    refine lv_bipush (v := nI 13) hx hb dX3_valueOf_21 (by decide) ?_
    refine lv_iload hx hb dX3_valueOf_23 (lv_at hl 4 rfl) ?_
    refine x_addN hx hb dX3_valueOf_25 ?_
    refine x_iald hx hb K hP 1 0 rfl rfl (13 + k) rfl (by omega) (by decide) rfl dX3_valueOf_26 ?_
    refine lv_aload_n hx hb dX3_valueOf_27 rfl (lv_at hl 0 rfl) ?_
    refine va_get (D := D) (ci := 3) (C := RX3) (T := TX3) (N := 10) hx hb hts in_X3 hown K hP 0 rfl rfl 0 (by decide) (hts _ q1075) (fun _ h9 => h9) rfl dX3_valueOf_28 ?_
    refine lv_bipush (v := nI 84) hx hb dX3_valueOf_31 (by decide) ?_
    refine lv_bipush (v := nI 9) hx hb dX3_valueOf_33 (by decide) ?_
    refine lv_iload_n hx hb dX3_valueOf_35 rfl (lv_at hl 1 rfl) ?_
    refine x_mulN hx hb dX3_valueOf_36 ?_
    refine x_addN hx hb dX3_valueOf_37 ?_
    refine lv_iconst (v := nI 1) hx hb dX3_valueOf_38 (by decide) ?_
    refine x_addN hx hb dX3_valueOf_39 ?_
    refine lv_iload hx hb dX3_valueOf_40 (lv_at hl 4 rfl) ?_
    refine x_addN hx hb dX3_valueOf_42 ?_
    refine x_iald hx hb K hP 1 0 rfl rfl (((84 + (9 * kc)) + 1) + k) rfl (by omega) (by decide) rfl dX3_valueOf_43 ?_
    refine lv_imul hx hb dX3_valueOf_44 ?_
    refine lv_iadd hx hb dX3_valueOf_45 ?_
    refine lv_istore_n (lv' := [(3, .int (a + ((row (13 + k)) * (row (((84 + (9 * kc)) + 1) + k))))), (0, .ref h0), (1, .int (nI kc)), (2, .int (nI pl)), (4, .int (nI k))]) hx hb dX3_valueOf_46 rfl hl (by decide) rfl (fun ls hl => ?_)
    refine lv_iinc (v := nI (k + 1)) (lv' := [(4, .int (nI (k + 1))), (3, .int (a + ((row (13 + k)) * (row (((84 + (9 * kc)) + 1) + k))))), (0, .ref h0), (1, .int (nI kc)), (2, .int (nI pl))]) hx hb dX3_valueOf_47 hl (k := 4) rfl (nI_1 k) (by decide) rfl (fun ls hl => ?_)
    refine lv_goto (tgt := 5) hx hb dX3_valueOf_50 (by decide) ?_
    refine ih ls ?_
    show lv_has ls 5 [(0, .ref h0), (1, .int (nI kc)), (2, .int (nI pl)), (3, .int ((mCoS row kc) k a)), (4, .int (nI (k + 1)))]
    rw [show (mCoS row kc) k a = a + ((row (13 + k)) * (row (((84 + (9 * kc)) + 1) + k))) from (by simp [mVlS, mCoS])]
    exact lv_sub hl [2, 3, 4, 1, 0] rfl
  · intro ls hl
    have hl : lv_has ls 5 [(0, .ref h0), (1, .int (nI kc)), (2, .int (nI pl)), (3, .int (mConst row cu kc)), (4, .int (nI cu))] := hl
    show W p l e (rmR 2 80) s m ([.ref h0, .int (nI kc), .int (nI pl)]).toArray below meth c s.heap [] 0 0 (MQ below (QRet (some (.int (mValue row n cu kc pl)))) ([.ref h0, .int (nI kc), .int (nI pl)]).toArray s 0 0 (fun _ => False)) (F0 m 5 ls [])
    refine lv_iload hx hb dX3_valueOf_5 (lv_at hl 4 rfl) ?_
    refine lv_aload_n hx hb dX3_valueOf_7 rfl (lv_at hl 0 rfl) ?_
    refine va_get (D := D) (ci := 3) (C := RX3) (T := TX3) (N := 10) hx hb hts in_X3 hown K hP 0 rfl rfl 0 (by decide) (hts _ q1075) (fun _ h9 => h9) rfl dX3_valueOf_8 ?_
    refine lv_iconst (v := nI 1) hx hb dX3_valueOf_11 (by decide) ?_
    refine x_iald hx hb K hP 1 0 rfl rfl 1 rfl (by omega) (by decide) e1 dX3_valueOf_12 ?_
    refine lv_icmp_ge (tgt := 53) hx hb dX3_valueOf_13 (by decide) (fun _ => ?_) (fun h => absurd (nI_le (by omega) (by omega)) h)
    refine lv_iconst (v := nI 0) hx hb dX3_valueOf_53 (by decide) ?_
    refine lv_istore (lv' := [(4, .int (nI 0)), (0, .ref h0), (1, .int (nI kc)), (2, .int (nI pl)), (3, .int (mConst row cu kc))]) hx hb dX3_valueOf_54 hl (by decide) rfl (fun ls hl => ?_)
    refine lpI (mVlS row cu kc pl) (mConst row cu kc) n (fun k a ls => lv_has ls 5 [(0, .ref h0), (1, .int (nI kc)), (2, .int (nI pl)), (3, .int a), (4, .int (nI k))]) (fun ls => W p l e (rmR 2 80) s m ([.ref h0, .int (nI kc), .int (nI pl)]).toArray below meth c s.heap [] 0 0 (MQ below (QRet (some (.int (mValue row n cu kc pl)))) ([.ref h0, .int (nI kc), .int (nI pl)]).toArray s 0 0 (fun _ => False)) (F0 m 56 ls [])) ?_ ?_ ls (lv_sub hl [1, 2, 3, 4, 0] rfl)
    · intro k ls hk_4 hl ih
      generalize iter (mVlS row cu kc pl) k 0 (mConst row cu kc) = a at *
      have hl : lv_has ls 5 [(0, .ref h0), (1, .int (nI kc)), (2, .int (nI pl)), (3, .int a), (4, .int (nI k))] := hl
      show W p l e (rmR 2 80) s m ([.ref h0, .int (nI kc), .int (nI pl)]).toArray below meth c s.heap [] 0 0 (MQ below (QRet (some (.int (mValue row n cu kc pl)))) ([.ref h0, .int (nI kc), .int (nI pl)]).toArray s 0 0 (fun _ => False)) (F0 m 56 ls [])
      refine lv_iload hx hb dX3_valueOf_56 (lv_at hl 4 rfl) ?_
      refine lv_aload_n hx hb dX3_valueOf_58 rfl (lv_at hl 0 rfl) ?_
      refine va_get (D := D) (ci := 3) (C := RX3) (T := TX3) (N := 10) hx hb hts in_X3 hown K hP 0 rfl rfl 0 (by decide) (hts _ q1075) (fun _ h9 => h9) rfl dX3_valueOf_59 ?_
      refine lv_iconst (v := nI 0) hx hb dX3_valueOf_62 (by decide) ?_
      refine x_iald hx hb K hP 1 0 rfl rfl 0 rfl (by omega) (by decide) e0 dX3_valueOf_63 ?_
      refine lv_icmp_ge (tgt := 96) hx hb dX3_valueOf_64 (by decide) (fun h => absurd h (nI_ge hk_4 (by omega))) (fun _ => ?_)
      refine lv_iload_n hx hb dX3_valueOf_67 rfl (lv_at hl 3 rfl) ?_
      refine lv_iload_n hx hb dX3_valueOf_68 rfl (lv_at hl 2 rfl) ?_
      refine lv_iload hx hb dX3_valueOf_69 (lv_at hl 4 rfl) ?_
      refine x_ret (va_runS (As := [.int (nI pl), .int (nI k)]) (rest := [.int a]) S (mr_isIn l pl k (by omega) (by omega)) (va_cwS 2 hts (lw_S q1181 q1182 q69 q1183) rfl rfl rfl hdX3_isIn ⟨Nat.le_of_ble_eq_true rfl, Nat.le_of_ble_eq_true rfl⟩) ⟨bb_blind tt_bl _, tt_pre _⟩ rfl rfl hl.1 rfl (lv_room (Nat.le_of_ble_eq_true rfl)) dX3_valueOf_71 ⟨Nat.le_refl _, Nat.le_refl _⟩) ?_
      refine x_ifb_eq (tgt := 87) hx hb dX3_valueOf_74 (by decide) (fun h_6 => ?_) (fun h_6 => ?_)
      · refine lv_iconst (v := nI 0) hx hb dX3_valueOf_87 (by decide) ?_
        refine lv_isub hx hb dX3_valueOf_88 ?_
        refine lv_istore_n (lv' := [(3, .int (a - (nI 0))), (0, .ref h0), (1, .int (nI kc)), (2, .int (nI pl)), (4, .int (nI k))]) hx hb dX3_valueOf_89 rfl hl (by decide) rfl (fun ls hl => ?_)
        refine lv_iinc (v := nI (k + 1)) (lv' := [(4, .int (nI (k + 1))), (3, .int (a - (nI 0))), (0, .ref h0), (1, .int (nI kc)), (2, .int (nI pl))]) hx hb dX3_valueOf_90 hl (k := 4) rfl (nI_1 k) (by decide) rfl (fun ls hl => ?_)
        refine lv_goto (tgt := 56) hx hb dX3_valueOf_93 (by decide) ?_
        refine ih ls ?_
        show lv_has ls 5 [(0, .ref h0), (1, .int (nI kc)), (2, .int (nI pl)), (3, .int ((mVlS row cu kc pl) k a)), (4, .int (nI (k + 1)))]
        rw [show (mVlS row cu kc pl) k a = a - (nI 0) from (by simp [mVlS, mCoS, h_6])]
        exact lv_sub hl [2, 3, 4, 1, 0] rfl
      · refine lv_aload_n hx hb dX3_valueOf_77 rfl (lv_at hl 0 rfl) ?_
        refine lv_iload_n hx hb dX3_valueOf_78 rfl (lv_at hl 1 rfl) ?_
        refine lv_iload hx hb dX3_valueOf_79 (lv_at hl 4 rfl) ?_
        refine x_ret (va_runV (As := [.int (nI kc), .int (nI k)]) (rest := [.int a]) S (mr_weightOf l D dA h0 hr fs row w kc k (by omega) (by omega)) (cwV 2 hts (lw_V q1231 q1233 qs41 q69 q1234) rfl rfl rfl hdX3_weightOf ⟨Nat.le_of_ble_eq_true rfl, Nat.le_of_ble_eq_true rfl⟩) ⟨bb_blind ka_bl _, va_recv K hP (ci := 3) (q0 := 0) rfl rfl, ka_pre K hP _⟩ rfl rfl hl.1 rfl (lv_room (Nat.le_of_ble_eq_true rfl)) dX3_valueOf_81 ⟨Nat.le_refl _, Nat.le_refl _⟩) ?_
        refine lv_goto (tgt := 88) hx hb dX3_valueOf_84 (by decide) ?_
        refine lv_isub hx hb dX3_valueOf_88 ?_
        refine lv_istore_n (lv' := [(3, .int (a - (mWeight row cu kc k))), (0, .ref h0), (1, .int (nI kc)), (2, .int (nI pl)), (4, .int (nI k))]) hx hb dX3_valueOf_89 rfl hl (by decide) rfl (fun ls hl => ?_)
        refine lv_iinc (v := nI (k + 1)) (lv' := [(4, .int (nI (k + 1))), (3, .int (a - (mWeight row cu kc k))), (0, .ref h0), (1, .int (nI kc)), (2, .int (nI pl))]) hx hb dX3_valueOf_90 hl (k := 4) rfl (nI_1 k) (by decide) rfl (fun ls hl => ?_)
        refine lv_goto (tgt := 56) hx hb dX3_valueOf_93 (by decide) ?_
        refine ih ls ?_
        show lv_has ls 5 [(0, .ref h0), (1, .int (nI kc)), (2, .int (nI pl)), (3, .int ((mVlS row cu kc pl) k a)), (4, .int (nI (k + 1)))]
        rw [show (mVlS row cu kc pl) k a = a - (mWeight row cu kc k) from (by simp [mVlS, mCoS, h_6])]
        exact lv_sub hl [2, 3, 4, 1, 0] rfl
    · intro ls hl
      have hl : lv_has ls 5 [(0, .ref h0), (1, .int (nI kc)), (2, .int (nI pl)), (3, .int (mValue row n cu kc pl)), (4, .int (nI n))] := hl
      show W p l e (rmR 2 80) s m ([.ref h0, .int (nI kc), .int (nI pl)]).toArray below meth c s.heap [] 0 0 (MQ below (QRet (some (.int (mValue row n cu kc pl)))) ([.ref h0, .int (nI kc), .int (nI pl)]).toArray s 0 0 (fun _ => False)) (F0 m 56 ls [])
      refine lv_iload hx hb dX3_valueOf_56 (lv_at hl 4 rfl) ?_
      refine lv_aload_n hx hb dX3_valueOf_58 rfl (lv_at hl 0 rfl) ?_
      refine va_get (D := D) (ci := 3) (C := RX3) (T := TX3) (N := 10) hx hb hts in_X3 hown K hP 0 rfl rfl 0 (by decide) (hts _ q1075) (fun _ h9 => h9) rfl dX3_valueOf_59 ?_
      refine lv_iconst (v := nI 0) hx hb dX3_valueOf_62 (by decide) ?_
      refine x_iald hx hb K hP 1 0 rfl rfl 0 rfl (by omega) (by decide) e0 dX3_valueOf_63 ?_
      refine lv_icmp_ge (tgt := 96) hx hb dX3_valueOf_64 (by decide) (fun _ => ?_) (fun h => absurd (nI_le (by omega) (by omega)) h)
      refine lv_iload_n hx hb dX3_valueOf_96 rfl (lv_at hl 3 rfl) ?_
      exact x_iret hx hb hrt hlk rfl dX3_valueOf_97

set_option maxHeartbeats 4000000 in
theorem mr_asked (l : Launch) (D : va_G) (dA : Nat → ClassId) (h0 hr : Nat) (fs : List Value) (row : Nat → Int32) {n cu q : Nat} (w : MWf row n cu q) (kc pl : Nat) (hkc : kc < 40) (hp : pl < 128) (hry : ∃ c, c < 8 ∧ row (84 + 9 * kc) = nI c) : RO l yX3_asked cX3_asked 3 (some .int) 2 80 [.ref h0, .int (nI kc), .int (nI pl)] (KA D dA) (MRo D dA h0 hr fs row) (some (.int (nI (mAsked row n kc pl)))) := by
  refine ro_of (by decide) (Nat.le_of_ble_eq_true rfl) ?_
  intro p e s m below meth c S hrt hlk K hP ls hl
  obtain ⟨hx, hb, hml, hown, hts⟩ := id S
  obtain ⟨e0, hn, e1, hcu, e3, hq, hray⟩ := id w
  obtain ⟨c0, hc0, ec0⟩ := hry
  have hl : lv_has ls 3 [(0, .ref h0), (1, .int (nI kc)), (2, .int (nI pl))] := hl
  refine lv_iload_n hx hb dX3_asked_0 rfl (lv_at hl 2 rfl) ?_
  refine lv_aload_n hx hb dX3_asked_1 rfl (lv_at hl 0 rfl) ?_
  refine lv_aload_n hx hb dX3_asked_2 rfl (lv_at hl 0 rfl) ?_
  refine va_get (D := D) (ci := 3) (C := RX3) (T := TX3) (N := 10) hx hb hts in_X3 hown K hP 0 rfl rfl 0 (by decide) (hts _ q1075) (fun _ h9 => h9) rfl dX3_asked_3 ?_
  refine lv_bipush (v := nI 84) hx hb dX3_asked_6 (by decide) ?_
  refine lv_bipush (v := nI 9) hx hb dX3_asked_8 (by decide) ?_
  refine lv_iload_n hx hb dX3_asked_10 rfl (lv_at hl 1 rfl) ?_
  refine x_mulN hx hb dX3_asked_11 ?_
  refine x_addN hx hb dX3_asked_12 ?_
  refine x_iald hx hb K hP 1 0 rfl rfl (84 + (9 * kc)) rfl (by omega) (by decide) ec0 dX3_asked_13 ?_
  refine x_ret (va_runV (As := [.int (nI c0)]) (rest := [.int (nI pl)]) S (mr_reachedFrom l D dA h0 hr fs row w c0 (by omega)) (cwV 1 hts (lw_V q1219 q1221 qs38 q69 q1222) rfl rfl rfl hdX3_reachedFrom ⟨Nat.le_of_ble_eq_true rfl, Nat.le_of_ble_eq_true rfl⟩) ⟨bb_blind ka_bl _, va_recv K hP (ci := 3) (q0 := 0) rfl rfl, ka_pre K hP _⟩ rfl rfl hl.1 rfl (lv_room (Nat.le_of_ble_eq_true rfl)) dX3_asked_14 ⟨Nat.le_refl _, Nat.le_refl _⟩) ?_
  refine lv_iand hx hb dX3_asked_17 ?_
  refine x_top (y := nI (pl &&& mReach row n c0)) (nx_and _ _) ?_
  refine x_ret (va_runS (As := [.int (nI (pl &&& mReach row n c0))]) (rest := []) S (mr_many l (pl &&& mReach row n c0) (Nat.lt_trans (and_lt hp) (by decide))) (va_cwS 1 hts (lw_S q1184 q1185 q69 q1186) rfl rfl rfl hdX3_many ⟨Nat.le_of_ble_eq_true rfl, Nat.le_of_ble_eq_true rfl⟩) ⟨bb_blind tt_bl _, tt_pre _⟩ rfl rfl hl.1 rfl (lv_room (Nat.le_of_ble_eq_true rfl)) dX3_asked_18 ⟨Nat.le_refl _, Nat.le_refl _⟩) ?_
  exact x_iret hx hb hrt hlk (by rw [mAsked, ec0, nI_clamp (by omega)]) dX3_asked_21

set_option maxHeartbeats 4000000 in
theorem mr_raysMissed (l : Launch) (D : va_G) (dA : Nat → ClassId) (h0 hr : Nat) (fs : List Value) (row : Nat → Int32) {n cu q : Nat} (w : MWf row n cu q) (pl : Nat) (hp : pl < 128) : RO l yX3_raysMissed cX3_raysMissed 4 (some .int) 3 120 [.ref h0, .int (nI pl)] (KA D dA) (MRo D dA h0 hr fs row) (some (.int (nI (mRaysM row n q pl)))) := by
  refine ro_of (by decide) (Nat.le_of_ble_eq_true rfl) ?_
  intro p e s m below meth c S hrt hlk K hP ls hl
  obtain ⟨hx, hb, hml, hown, hts⟩ := id S
  obtain ⟨e0, hn, e1, hcu, e3, hq, hray⟩ := id w
  have hl : lv_has ls 4 [(0, .ref h0), (1, .int (nI pl))] := hl
  refine lv_iconst (v := nI 0) hx hb dX3_raysMissed_0 (by decide) ?_
  refine lv_istore_n (lv' := [(2, .int (nI 0)), (0, .ref h0), (1, .int (nI pl))]) hx hb dX3_raysMissed_1 rfl hl (by decide) rfl (fun ls hl => ?_)
  refine lv_iconst (v := nI 0) hx hb dX3_raysMissed_2 (by decide) ?_
  refine lv_istore_n (lv' := [(3, .int (nI 0)), (2, .int (nI 0)), (0, .ref h0), (1, .int (nI pl))]) hx hb dX3_raysMissed_3 rfl hl (by decide) rfl (fun ls hl => ?_)
  refine lpI (mRmS row n pl) 0 q (fun k a ls => lv_has ls 4 [(0, .ref h0), (1, .int (nI pl)), (2, .int (nI a)), (3, .int (nI k))]) (fun ls => W p l e (rmR 3 120) s m ([.ref h0, .int (nI pl)]).toArray below meth c s.heap [] 0 0 (MQ below (QRet (some (.int (nI (mRaysM row n q pl))))) ([.ref h0, .int (nI pl)]).toArray s 0 0 (fun _ => False)) (F0 m 4 ls [])) ?_ ?_ ls (lv_sub hl [2, 3, 1, 0] rfl)
  · intro k ls hk_1 hl ih
    generalize iter (mRmS row n pl) k 0 0 = a at *
    have hl : lv_has ls 4 [(0, .ref h0), (1, .int (nI pl)), (2, .int (nI a)), (3, .int (nI k))] := hl
    show W p l e (rmR 3 120) s m ([.ref h0, .int (nI pl)]).toArray below meth c s.heap [] 0 0 (MQ below (QRet (some (.int (nI (mRaysM row n q pl))))) ([.ref h0, .int (nI pl)]).toArray s 0 0 (fun _ => False)) (F0 m 4 ls [])
    refine lv_iload_n hx hb dX3_raysMissed_4 rfl (lv_at hl 3 rfl) ?_
    refine lv_aload_n hx hb dX3_raysMissed_5 rfl (lv_at hl 0 rfl) ?_
    refine va_get (D := D) (ci := 3) (C := RX3) (T := TX3) (N := 10) hx hb hts in_X3 hown K hP 0 rfl rfl 0 (by decide) (hts _ q1075) (fun _ h9 => h9) rfl dX3_raysMissed_6 ?_
    refine lv_iconst (v := nI 3) hx hb dX3_raysMissed_9 (by decide) ?_
    refine x_iald hx hb K hP 1 0 rfl rfl 3 rfl (by omega) (by decide) e3 dX3_raysMissed_10 ?_
    refine lv_icmp_ge (tgt := 45) hx hb dX3_raysMissed_11 (by decide) (fun h => absurd h (nI_ge hk_1 (by omega))) (fun _ => ?_)
    refine lv_iload_n hx hb dX3_raysMissed_14 rfl (lv_at hl 2 rfl) ?_
    refine lv_aload_n hx hb dX3_raysMissed_15 rfl (lv_at hl 0 rfl) ?_
    refine lv_iload_n hx hb dX3_raysMissed_16 rfl (lv_at hl 3 rfl) ?_
    refine x_ret (va_runV (As := [.int (nI k)]) (rest := [.int (nI a)]) S (mr_isRay l D dA h0 hr fs row w k (by omega)) (cwV 1 hts (lw_V q1211 q1213 qs36 q69 q1214) rfl rfl rfl hdX3_isRay ⟨Nat.le_of_ble_eq_true rfl, Nat.le_of_ble_eq_true rfl⟩) ⟨bb_blind ka_bl _, va_recv K hP (ci := 3) (q0 := 0) rfl rfl, ka_pre K hP _⟩ rfl rfl hl.1 rfl (lv_room (Nat.le_of_ble_eq_true rfl)) dX3_raysMissed_17 ⟨Nat.le_refl _, Nat.le_refl _⟩) ?_
    refine x_ifb_eq (tgt := 36) hx hb dX3_raysMissed_20 (by decide) (fun h_3 => ?_) (fun h_3 => ?_)
    · refine lv_iconst (v := nI 0) hx hb dX3_raysMissed_36 (by decide) ?_
      refine x_addN hx hb dX3_raysMissed_37 ?_
      refine lv_istore_n (lv' := [(2, .int (nI (a + 0))), (0, .ref h0), (1, .int (nI pl)), (3, .int (nI k))]) hx hb dX3_raysMissed_38 rfl hl (by decide) rfl (fun ls hl => ?_)
      refine lv_iinc (v := nI (k + 1)) (lv' := [(3, .int (nI (k + 1))), (2, .int (nI (a + 0))), (0, .ref h0), (1, .int (nI pl))]) hx hb dX3_raysMissed_39 hl (k := 3) rfl (nI_1 k) (by decide) rfl (fun ls hl => ?_)
      refine lv_goto (tgt := 4) hx hb dX3_raysMissed_42 (by decide) ?_
      refine ih ls ?_
      show lv_has ls 4 [(0, .ref h0), (1, .int (nI pl)), (2, .int (nI ((mRmS row n pl) k a))), (3, .int (nI (k + 1)))]
      rw [show nI ((mRmS row n pl) k a) = nI (a + 0) from (by simp [mRmS, h_3])]
      exact lv_sub hl [2, 3, 1, 0] rfl
    · refine lv_aload_n hx hb dX3_raysMissed_23 rfl (lv_at hl 0 rfl) ?_
      refine lv_iload_n hx hb dX3_raysMissed_24 rfl (lv_at hl 3 rfl) ?_
      refine lv_iload_n hx hb dX3_raysMissed_25 rfl (lv_at hl 1 rfl) ?_
      refine x_ret (va_runV (As := [.int (nI k), .int (nI pl)]) (rest := [.int (nI a)]) S (mr_asked l D dA h0 hr fs row w k pl (by omega) (by omega) (ray_of w hk_1 h_3)) (cwV 2 hts (lw_V q1215 q1217 qs37 q69 q1218) rfl rfl rfl hdX3_asked ⟨Nat.le_of_ble_eq_true rfl, Nat.le_of_ble_eq_true rfl⟩) ⟨bb_blind ka_bl _, va_recv K hP (ci := 3) (q0 := 0) rfl rfl, ka_pre K hP _⟩ rfl rfl hl.1 rfl (lv_room (Nat.le_of_ble_eq_true rfl)) dX3_raysMissed_26 ⟨Nat.le_refl _, Nat.le_refl _⟩) ?_
      refine x_ifn_ne (tgt := 36) hx hb dX3_raysMissed_29 (by decide) (Nat.lt_of_le_of_lt (mMany_7 _) (by decide)) (fun h_4 => ?_) (fun h_4 => ?_)
      · refine lv_iconst (v := nI 0) hx hb dX3_raysMissed_36 (by decide) ?_
        refine x_addN hx hb dX3_raysMissed_37 ?_
        refine lv_istore_n (lv' := [(2, .int (nI (a + 0))), (0, .ref h0), (1, .int (nI pl)), (3, .int (nI k))]) hx hb dX3_raysMissed_38 rfl hl (by decide) rfl (fun ls hl => ?_)
        refine lv_iinc (v := nI (k + 1)) (lv' := [(3, .int (nI (k + 1))), (2, .int (nI (a + 0))), (0, .ref h0), (1, .int (nI pl))]) hx hb dX3_raysMissed_39 hl (k := 3) rfl (nI_1 k) (by decide) rfl (fun ls hl => ?_)
        refine lv_goto (tgt := 4) hx hb dX3_raysMissed_42 (by decide) ?_
        refine ih ls ?_
        show lv_has ls 4 [(0, .ref h0), (1, .int (nI pl)), (2, .int (nI ((mRmS row n pl) k a))), (3, .int (nI (k + 1)))]
        rw [show nI ((mRmS row n pl) k a) = nI (a + 0) from (by simp [mRmS, h_3, h_4])]
        exact lv_sub hl [2, 3, 1, 0] rfl
      · refine lv_iconst (v := nI 1) hx hb dX3_raysMissed_32 (by decide) ?_
        refine lv_goto (tgt := 37) hx hb dX3_raysMissed_33 (by decide) ?_
        refine x_addN hx hb dX3_raysMissed_37 ?_
        refine lv_istore_n (lv' := [(2, .int (nI (a + 1))), (0, .ref h0), (1, .int (nI pl)), (3, .int (nI k))]) hx hb dX3_raysMissed_38 rfl hl (by decide) rfl (fun ls hl => ?_)
        refine lv_iinc (v := nI (k + 1)) (lv' := [(3, .int (nI (k + 1))), (2, .int (nI (a + 1))), (0, .ref h0), (1, .int (nI pl))]) hx hb dX3_raysMissed_39 hl (k := 3) rfl (nI_1 k) (by decide) rfl (fun ls hl => ?_)
        refine lv_goto (tgt := 4) hx hb dX3_raysMissed_42 (by decide) ?_
        refine ih ls ?_
        show lv_has ls 4 [(0, .ref h0), (1, .int (nI pl)), (2, .int (nI ((mRmS row n pl) k a))), (3, .int (nI (k + 1)))]
        rw [show nI ((mRmS row n pl) k a) = nI (a + 1) from (by simp [mRmS, h_3, h_4])]
        exact lv_sub hl [2, 3, 1, 0] rfl
  · intro ls hl
    have hl : lv_has ls 4 [(0, .ref h0), (1, .int (nI pl)), (2, .int (nI (mRaysM row n q pl))), (3, .int (nI q))] := hl
    show W p l e (rmR 3 120) s m ([.ref h0, .int (nI pl)]).toArray below meth c s.heap [] 0 0 (MQ below (QRet (some (.int (nI (mRaysM row n q pl))))) ([.ref h0, .int (nI pl)]).toArray s 0 0 (fun _ => False)) (F0 m 4 ls [])
    refine lv_iload_n hx hb dX3_raysMissed_4 rfl (lv_at hl 3 rfl) ?_
    refine lv_aload_n hx hb dX3_raysMissed_5 rfl (lv_at hl 0 rfl) ?_
    refine va_get (D := D) (ci := 3) (C := RX3) (T := TX3) (N := 10) hx hb hts in_X3 hown K hP 0 rfl rfl 0 (by decide) (hts _ q1075) (fun _ h9 => h9) rfl dX3_raysMissed_6 ?_
    refine lv_iconst (v := nI 3) hx hb dX3_raysMissed_9 (by decide) ?_
    refine x_iald hx hb K hP 1 0 rfl rfl 3 rfl (by omega) (by decide) e3 dX3_raysMissed_10 ?_
    refine lv_icmp_ge (tgt := 45) hx hb dX3_raysMissed_11 (by decide) (fun _ => ?_) (fun h => absurd (nI_le (by omega) (by omega)) h)
    refine lv_iload_n hx hb dX3_raysMissed_45 rfl (lv_at hl 2 rfl) ?_
    exact x_iret hx hb hrt hlk rfl dX3_raysMissed_46

set_option maxHeartbeats 4000000 in
theorem mr_guess (l : Launch) (D : va_G) (dA : Nat → ClassId) (h0 hr : Nat) (fs : List Value) (row : Nat → Int32) {n cu q : Nat} (w : MWf row n cu q) (pl : Nat) (hp : pl < 128) : RO l yX3_guess cX3_guess 5 (some .int) 3 120 [.ref h0, .int (nI pl)] (KA D dA) (MRo D dA h0 hr fs row) (some (.int (mGuess row n cu q pl))) := by
  refine ro_of (by decide) (Nat.le_of_ble_eq_true rfl) ?_
  intro p e s m below meth c S hrt hlk K hP ls hl
  obtain ⟨hx, hb, hml, hown, hts⟩ := id S
  obtain ⟨e0, hn, e1, hcu, e3, hq, hray⟩ := id w
  have hl : lv_has ls 5 [(0, .ref h0), (1, .int (nI pl))] := hl
  refine lv_iconst (v := nI 0) hx hb dX3_guess_0 (by decide) ?_
  refine lv_istore_n (lv' := [(2, .int (nI 0)), (0, .ref h0), (1, .int (nI pl))]) hx hb dX3_guess_1 rfl hl (by decide) rfl (fun ls hl => ?_)
  refine lv_iconst (v := nI 0) hx hb dX3_guess_2 (by decide) ?_
  refine lv_istore_n (lv' := [(3, .int (nI 0)), (2, .int (nI 0)), (0, .ref h0), (1, .int (nI pl))]) hx hb dX3_guess_3 rfl hl (by decide) rfl (fun ls hl => ?_)
  refine lpI (mGuS row n cu pl) (nI 0) q (fun k a ls => lv_has ls 5 [(0, .ref h0), (1, .int (nI pl)), (2, .int a), (3, .int (nI k))]) (fun ls => W p l e (rmR 3 120) s m ([.ref h0, .int (nI pl)]).toArray below meth c s.heap [] 0 0 (MQ below (QRet (some (.int (mGuess row n cu q pl)))) ([.ref h0, .int (nI pl)]).toArray s 0 0 (fun _ => False)) (F0 m 4 ls [])) ?_ ?_ ls (lv_sub hl [2, 3, 1, 0] rfl)
  · intro k ls hk_1 hl ih
    generalize iter (mGuS row n cu pl) k 0 (nI 0) = a at *
    have hl : lv_has ls 5 [(0, .ref h0), (1, .int (nI pl)), (2, .int a), (3, .int (nI k))] := hl
    show W p l e (rmR 3 120) s m ([.ref h0, .int (nI pl)]).toArray below meth c s.heap [] 0 0 (MQ below (QRet (some (.int (mGuess row n cu q pl)))) ([.ref h0, .int (nI pl)]).toArray s 0 0 (fun _ => False)) (F0 m 4 ls [])
    refine lv_iload_n hx hb dX3_guess_4 rfl (lv_at hl 3 rfl) ?_
    refine lv_aload_n hx hb dX3_guess_5 rfl (lv_at hl 0 rfl) ?_
    refine va_get (D := D) (ci := 3) (C := RX3) (T := TX3) (N := 10) hx hb hts in_X3 hown K hP 0 rfl rfl 0 (by decide) (hts _ q1075) (fun _ h9 => h9) rfl dX3_guess_6 ?_
    refine lv_iconst (v := nI 3) hx hb dX3_guess_9 (by decide) ?_
    refine x_iald hx hb K hP 1 0 rfl rfl 3 rfl (by omega) (by decide) e3 dX3_guess_10 ?_
    refine lv_icmp_ge (tgt := 53) hx hb dX3_guess_11 (by decide) (fun h => absurd h (nI_ge hk_1 (by omega))) (fun _ => ?_)
    refine lv_aload_n hx hb dX3_guess_14 rfl (lv_at hl 0 rfl) ?_
    refine lv_iload_n hx hb dX3_guess_15 rfl (lv_at hl 3 rfl) ?_
    refine x_ret (va_runV (As := [.int (nI k)]) (rest := []) S (mr_isRay l D dA h0 hr fs row w k (by omega)) (cwV 1 hts (lw_V q1211 q1213 qs36 q69 q1214) rfl rfl rfl hdX3_isRay ⟨Nat.le_of_ble_eq_true rfl, Nat.le_of_ble_eq_true rfl⟩) ⟨bb_blind ka_bl _, va_recv K hP (ci := 3) (q0 := 0) rfl rfl, ka_pre K hP _⟩ rfl rfl hl.1 rfl (lv_room (Nat.le_of_ble_eq_true rfl)) dX3_guess_16 ⟨Nat.le_refl _, Nat.le_refl _⟩) ?_
    refine x_ifb_eq (tgt := 26) hx hb dX3_guess_19 (by decide) (fun h_3 => ?_) (fun h_3 => ?_)
    · refine lv_aload_n hx hb dX3_guess_26 rfl (lv_at hl 0 rfl) ?_
      refine lv_iload_n hx hb dX3_guess_27 rfl (lv_at hl 3 rfl) ?_
      refine lv_iload_n hx hb dX3_guess_28 rfl (lv_at hl 1 rfl) ?_
      refine x_ret (va_runV (As := [.int (nI k), .int (nI pl)]) (rest := []) S (mr_valueOf l D dA h0 hr fs row w k pl (by omega) (by omega)) (cwV 2 hts (lw_V q1227 q1229 qs40 q69 q1230) rfl rfl rfl hdX3_valueOf ⟨Nat.le_of_ble_eq_true rfl, Nat.le_of_ble_eq_true rfl⟩) ⟨bb_blind ka_bl _, va_recv K hP (ci := 3) (q0 := 0) rfl rfl, ka_pre K hP _⟩ rfl rfl hl.1 rfl (lv_room (Nat.le_of_ble_eq_true rfl)) dX3_guess_29 ⟨Nat.le_refl _, Nat.le_refl _⟩) ?_
      refine lv_istore (lv' := [(4, .int (mValue row n cu k pl)), (0, .ref h0), (1, .int (nI pl)), (2, .int a), (3, .int (nI k))]) hx hb dX3_guess_32 hl (by decide) rfl (fun ls hl => ?_)
      refine lv_iload hx hb dX3_guess_34 (lv_at hl 0 rfl) ?_
      refine lv_iload_n hx hb dX3_guess_36 rfl (lv_at hl 3 rfl) ?_
      refine lv_icmp_le (tgt := 45) hx hb dX3_guess_37 (by decide) (fun h_4 => ?_) (fun h_4 => ?_)
      · refine lv_iload_n hx hb dX3_guess_45 rfl (lv_at hl 3 rfl) ?_
        refine lv_istore_n (lv' := [(2, .int a), (4, .int (mValue row n cu k pl)), (0, .ref h0), (1, .int (nI pl)), (3, .int (nI k))]) hx hb dX3_guess_46 rfl hl (by decide) rfl (fun ls hl => ?_)
        refine lv_iinc (v := nI (k + 1)) (lv' := [(3, .int (nI (k + 1))), (2, .int a), (4, .int (mValue row n cu k pl)), (0, .ref h0), (1, .int (nI pl))]) hx hb dX3_guess_47 hl (k := 4) rfl (nI_1 k) (by decide) rfl (fun ls hl => ?_)
        refine lv_goto (tgt := 4) hx hb dX3_guess_50 (by decide) ?_
        refine ih ls ?_
        show lv_has ls 5 [(0, .ref h0), (1, .int (nI pl)), (2, .int ((mGuS row n cu pl) k a)), (3, .int (nI (k + 1)))]
        rw [show (mGuS row n cu pl) k a = a from (by simp [mGuS, mGuV, h_3, h_4])]
        exact lv_sub hl [3, 4, 1, 0] rfl
      · refine lv_iload hx hb dX3_guess_40 (lv_at hl 0 rfl) ?_
        refine lv_goto (tgt := 46) hx hb dX3_guess_42 (by decide) ?_
        refine lv_istore_n (lv' := [(2, .int (mValue row n cu k pl)), (4, .int (mValue row n cu k pl)), (0, .ref h0), (1, .int (nI pl)), (3, .int (nI k))]) hx hb dX3_guess_46 rfl hl (by decide) rfl (fun ls hl => ?_)
        refine lv_iinc (v := nI (k + 1)) (lv' := [(3, .int (nI (k + 1))), (2, .int (mValue row n cu k pl)), (4, .int (mValue row n cu k pl)), (0, .ref h0), (1, .int (nI pl))]) hx hb dX3_guess_47 hl (k := 4) rfl (nI_1 k) (by decide) rfl (fun ls hl => ?_)
        refine lv_goto (tgt := 4) hx hb dX3_guess_50 (by decide) ?_
        refine ih ls ?_
        show lv_has ls 5 [(0, .ref h0), (1, .int (nI pl)), (2, .int ((mGuS row n cu pl) k a)), (3, .int (nI (k + 1)))]
        rw [show (mGuS row n cu pl) k a = mValue row n cu k pl from (by simp [mGuS, mGuV, h_3, h_4])]
        exact lv_sub hl [3, 4, 1, 0] rfl
    · refine lv_iconst (v := nI 0) hx hb dX3_guess_22 (by decide) ?_
      refine lv_goto (tgt := 32) hx hb dX3_guess_23 (by decide) ?_
      refine lv_istore (lv' := [(4, .int (nI 0)), (0, .ref h0), (1, .int (nI pl)), (2, .int a), (3, .int (nI k))]) hx hb dX3_guess_32 hl (by decide) rfl (fun ls hl => ?_)
      refine lv_iload hx hb dX3_guess_34 (lv_at hl 0 rfl) ?_
      refine lv_iload_n hx hb dX3_guess_36 rfl (lv_at hl 3 rfl) ?_
      refine lv_icmp_le (tgt := 45) hx hb dX3_guess_37 (by decide) (fun h_5 => ?_) (fun h_5 => ?_)
      · refine lv_iload_n hx hb dX3_guess_45 rfl (lv_at hl 3 rfl) ?_
        refine lv_istore_n (lv' := [(2, .int a), (4, .int (nI 0)), (0, .ref h0), (1, .int (nI pl)), (3, .int (nI k))]) hx hb dX3_guess_46 rfl hl (by decide) rfl (fun ls hl => ?_)
        refine lv_iinc (v := nI (k + 1)) (lv' := [(3, .int (nI (k + 1))), (2, .int a), (4, .int (nI 0)), (0, .ref h0), (1, .int (nI pl))]) hx hb dX3_guess_47 hl (k := 4) rfl (nI_1 k) (by decide) rfl (fun ls hl => ?_)
        refine lv_goto (tgt := 4) hx hb dX3_guess_50 (by decide) ?_
        refine ih ls ?_
        show lv_has ls 5 [(0, .ref h0), (1, .int (nI pl)), (2, .int ((mGuS row n cu pl) k a)), (3, .int (nI (k + 1)))]
        rw [show (mGuS row n cu pl) k a = a from (by simp [mGuS, mGuV, h_3, h_5])]
        exact lv_sub hl [3, 4, 1, 0] rfl
      · refine lv_iload hx hb dX3_guess_40 (lv_at hl 0 rfl) ?_
        refine lv_goto (tgt := 46) hx hb dX3_guess_42 (by decide) ?_
        refine lv_istore_n (lv' := [(2, .int (nI 0)), (4, .int (nI 0)), (0, .ref h0), (1, .int (nI pl)), (3, .int (nI k))]) hx hb dX3_guess_46 rfl hl (by decide) rfl (fun ls hl => ?_)
        refine lv_iinc (v := nI (k + 1)) (lv' := [(3, .int (nI (k + 1))), (2, .int (nI 0)), (4, .int (nI 0)), (0, .ref h0), (1, .int (nI pl))]) hx hb dX3_guess_47 hl (k := 4) rfl (nI_1 k) (by decide) rfl (fun ls hl => ?_)
        refine lv_goto (tgt := 4) hx hb dX3_guess_50 (by decide) ?_
        refine ih ls ?_
        show lv_has ls 5 [(0, .ref h0), (1, .int (nI pl)), (2, .int ((mGuS row n cu pl) k a)), (3, .int (nI (k + 1)))]
        rw [show (mGuS row n cu pl) k a = nI 0 from (by simp [mGuS, mGuV, h_3, h_5])]
        exact lv_sub hl [3, 4, 1, 0] rfl
  · intro ls hl
    have hl : lv_has ls 5 [(0, .ref h0), (1, .int (nI pl)), (2, .int (mAbove row n cu q pl)), (3, .int (nI q))] := hl
    show W p l e (rmR 3 120) s m ([.ref h0, .int (nI pl)]).toArray below meth c s.heap [] 0 0 (MQ below (QRet (some (.int (mGuess row n cu q pl)))) ([.ref h0, .int (nI pl)]).toArray s 0 0 (fun _ => False)) (F0 m 4 ls [])
    refine lv_iload_n hx hb dX3_guess_4 rfl (lv_at hl 3 rfl) ?_
    refine lv_aload_n hx hb dX3_guess_5 rfl (lv_at hl 0 rfl) ?_
    refine va_get (D := D) (ci := 3) (C := RX3) (T := TX3) (N := 10) hx hb hts in_X3 hown K hP 0 rfl rfl 0 (by decide) (hts _ q1075) (fun _ h9 => h9) rfl dX3_guess_6 ?_
    refine lv_iconst (v := nI 3) hx hb dX3_guess_9 (by decide) ?_
    refine x_iald hx hb K hP 1 0 rfl rfl 3 rfl (by omega) (by decide) e3 dX3_guess_10 ?_
    refine lv_icmp_ge (tgt := 53) hx hb dX3_guess_11 (by decide) (fun _ => ?_) (fun h => absurd (nI_le (by omega) (by omega)) h)
    refine lv_aload_n hx hb dX3_guess_53 rfl (lv_at hl 0 rfl) ?_
    refine lv_iload_n hx hb dX3_guess_54 rfl (lv_at hl 1 rfl) ?_
    refine x_ret (va_runV (As := [.int (nI pl)]) (rest := []) S (mr_prices l D dA h0 hr fs row w pl (by omega)) (cwV 1 hts (lw_V q1235 q1237 qs42 q69 q1238) rfl rfl rfl hdX3_prices ⟨Nat.le_of_ble_eq_true rfl, Nat.le_of_ble_eq_true rfl⟩) ⟨bb_blind ka_bl _, va_recv K hP (ci := 3) (q0 := 0) rfl rfl, ka_pre K hP _⟩ rfl rfl hl.1 rfl (lv_room (Nat.le_of_ble_eq_true rfl)) dX3_guess_55 ⟨Nat.le_refl _, Nat.le_refl _⟩) ?_
    refine lv_iload_n hx hb dX3_guess_58 rfl (lv_at hl 2 rfl) ?_
    refine lv_iadd hx hb dX3_guess_59 ?_
    exact x_iret hx hb hrt hlk rfl dX3_guess_60

set_option maxHeartbeats 4000000 in
theorem mr_masterPlan (l : Launch) (D : va_G) (dA : Nat → ClassId) (h0 hr : Nat) (fs : List Value) (row : Nat → Int32) {n cu q : Nat} (w : MWf row n cu q)  : RO l yX3_masterPlan cX3_masterPlan 5 (some .int) 4 160 [.ref h0] (KA D dA) (MRo D dA h0 hr fs row) (some (.int (oI (mMaster row n cu q)))) := by
  refine ro_of (by decide) (Nat.le_of_ble_eq_true rfl) ?_
  intro p e s m below meth c S hrt hlk K hP ls hl
  obtain ⟨hx, hb, hml, hown, hts⟩ := id S
  obtain ⟨e0, hn, e1, hcu, e3, hq, hray⟩ := id w
  have h2n := pow7 hn
  have hl : lv_has ls 5 [(0, .ref h0)] := hl
  refine lv_bipush (v := -5) hx hb dX3_masterPlan_0 (by decide) ?_
  refine lv_istore_n (lv' := [(1, .int (-5)), (0, .ref h0)]) hx hb dX3_masterPlan_2 rfl hl (by decide) rfl (fun ls hl => ?_)
  refine lv_iconst (v := nI 0) hx hb dX3_masterPlan_3 (by decide) ?_
  refine lv_istore_n (lv' := [(2, .int (nI 0)), (1, .int (-5)), (0, .ref h0)]) hx hb dX3_masterPlan_4 rfl hl (by decide) rfl (fun ls hl => ?_)
  refine lv_iconst (v := nI 0) hx hb dX3_masterPlan_5 (by decide) ?_
  refine lv_istore_n (lv' := [(3, .int (nI 0)), (2, .int (nI 0)), (1, .int (-5)), (0, .ref h0)]) hx hb dX3_masterPlan_6 rfl hl (by decide) rfl (fun ls hl => ?_)
  refine lpI (mMpS row n cu q) (none, nI 0) (2 ^ n) (fun k a ls => lv_has ls 5 [(0, .ref h0), (1, .int (oI ((a).1))), (2, .int ((a).2)), (3, .int (nI k))]) (fun ls => W p l e (rmR 4 160) s m ([.ref h0]).toArray below meth c s.heap [] 0 0 (MQ below (QRet (some (.int (oI (mMaster row n cu q))))) ([.ref h0]).toArray s 0 0 (fun _ => False)) (F0 m 7 ls [])) ?_ ?_ ls (lv_sub hl [3, 2, 1, 0] rfl)
  · intro k ls hk_1 hl ih
    have hbd := mMp_lt row n cu q k
    generalize iter (mMpS row n cu q) k 0 (none, nI 0) = a at *
    have hl : lv_has ls 5 [(0, .ref h0), (1, .int (oI ((a).1))), (2, .int ((a).2)), (3, .int (nI k))] := hl
    show W p l e (rmR 4 160) s m ([.ref h0]).toArray below meth c s.heap [] 0 0 (MQ below (QRet (some (.int (oI (mMaster row n cu q))))) ([.ref h0]).toArray s 0 0 (fun _ => False)) (F0 m 7 ls [])
    refine lv_iload_n hx hb dX3_masterPlan_7 rfl (lv_at hl 3 rfl) ?_
    refine lv_iconst (v := nI 1) hx hb dX3_masterPlan_8 (by decide) ?_
    refine lv_aload_n hx hb dX3_masterPlan_9 rfl (lv_at hl 0 rfl) ?_
    refine va_get (D := D) (ci := 3) (C := RX3) (T := TX3) (N := 10) hx hb hts in_X3 hown K hP 0 rfl rfl 0 (by decide) (hts _ q1075) (fun _ h9 => h9) rfl dX3_masterPlan_10 ?_
    refine lv_iconst (v := nI 0) hx hb dX3_masterPlan_13 (by decide) ?_
    refine x_iald hx hb K hP 1 0 rfl rfl 0 rfl (by omega) (by decide) e0 dX3_masterPlan_14 ?_
    refine lv_ishl hx hb dX3_masterPlan_15 ?_
    refine x_top (y := nI (2 ^ n)) (nx_shl (by omega)) ?_
    refine lv_icmp_ge (tgt := 63) hx hb dX3_masterPlan_16 (by decide) (fun h => absurd h (nI_ge hk_1 (by omega))) (fun _ => ?_)
    refine lv_aload_n hx hb dX3_masterPlan_19 rfl (lv_at hl 0 rfl) ?_
    refine lv_iload_n hx hb dX3_masterPlan_20 rfl (lv_at hl 3 rfl) ?_
    refine x_ret (va_runV (As := [.int (nI k)]) (rest := []) S (mr_isAllowed l D dA h0 hr fs row w k (by omega)) (cwV 1 hts (lw_V q1199 q1201 qs33 q69 q1202) rfl rfl rfl hdX3_isAllowed ⟨Nat.le_of_ble_eq_true rfl, Nat.le_of_ble_eq_true rfl⟩) ⟨bb_blind ka_bl _, va_recv K hP (ci := 3) (q0 := 0) rfl rfl, ka_pre K hP _⟩ rfl rfl hl.1 rfl (lv_room (Nat.le_of_ble_eq_true rfl)) dX3_masterPlan_21 ⟨Nat.le_refl _, Nat.le_refl _⟩) ?_
    refine x_ifb_eq (tgt := 57) hx hb dX3_masterPlan_24 (by decide) (fun h_3 => ?_) (fun h_3 => ?_)
    · refine lv_iinc (v := nI (k + 1)) (lv' := [(3, .int (nI (k + 1))), (0, .ref h0), (1, .int (oI ((a).1))), (2, .int ((a).2))]) hx hb dX3_masterPlan_57 hl (k := 3) rfl (nI_1 k) (by decide) rfl (fun ls hl => ?_)
      refine lv_goto (tgt := 7) hx hb dX3_masterPlan_60 (by decide) ?_
      refine ih ls ?_
      show lv_has ls 5 [(0, .ref h0), (1, .int (oI (((mMpS row n cu q) k a).1))), (2, .int (((mMpS row n cu q) k a).2)), (3, .int (nI (k + 1)))]
      rw [show oI (((mMpS row n cu q) k a).1) = oI ((a).1) from (by simp [mMpS, oI_s, oI_n, h_3])]
      rw [show ((mMpS row n cu q) k a).2 = (a).2 from (by simp [mMpS, oI_s, oI_n, h_3])]
      exact lv_sub hl [1, 2, 3, 0] rfl
    · refine lv_aload_n hx hb dX3_masterPlan_27 rfl (lv_at hl 0 rfl) ?_
      refine lv_iload_n hx hb dX3_masterPlan_28 rfl (lv_at hl 3 rfl) ?_
      refine x_ret (va_runV (As := [.int (nI k)]) (rest := []) S (mr_raysMissed l D dA h0 hr fs row w k (by omega)) (cwV 1 hts (lw_V q1207 q1209 qs35 q69 q1210) rfl rfl rfl hdX3_raysMissed ⟨Nat.le_of_ble_eq_true rfl, Nat.le_of_ble_eq_true rfl⟩) ⟨bb_blind ka_bl _, va_recv K hP (ci := 3) (q0 := 0) rfl rfl, ka_pre K hP _⟩ rfl rfl hl.1 rfl (lv_room (Nat.le_of_ble_eq_true rfl)) dX3_masterPlan_29 ⟨Nat.le_refl _, Nat.le_refl _⟩) ?_
      refine x_ifn_ne (tgt := 57) hx hb dX3_masterPlan_32 (by decide) (by have := mRmS_le row n k q; unfold mRaysM; omega) (fun h_4 => ?_) (fun h_4 => ?_)
      · refine lv_iinc (v := nI (k + 1)) (lv' := [(3, .int (nI (k + 1))), (0, .ref h0), (1, .int (oI ((a).1))), (2, .int ((a).2))]) hx hb dX3_masterPlan_57 hl (k := 3) rfl (nI_1 k) (by decide) rfl (fun ls hl => ?_)
        refine lv_goto (tgt := 7) hx hb dX3_masterPlan_60 (by decide) ?_
        refine ih ls ?_
        show lv_has ls 5 [(0, .ref h0), (1, .int (oI (((mMpS row n cu q) k a).1))), (2, .int (((mMpS row n cu q) k a).2)), (3, .int (nI (k + 1)))]
        rw [show oI (((mMpS row n cu q) k a).1) = oI ((a).1) from (by simp [mMpS, oI_s, oI_n, h_3, h_4])]
        rw [show ((mMpS row n cu q) k a).2 = (a).2 from (by simp [mMpS, oI_s, oI_n, h_3, h_4])]
        exact lv_sub hl [1, 2, 3, 0] rfl
      · refine lv_aload_n hx hb dX3_masterPlan_35 rfl (lv_at hl 0 rfl) ?_
        refine lv_iload_n hx hb dX3_masterPlan_36 rfl (lv_at hl 3 rfl) ?_
        refine x_ret (va_runV (As := [.int (nI k)]) (rest := []) S (mr_guess l D dA h0 hr fs row w k (by omega)) (cwV 1 hts (lw_V q1223 q1225 qs39 q69 q1226) rfl rfl rfl hdX3_guess ⟨Nat.le_of_ble_eq_true rfl, Nat.le_of_ble_eq_true rfl⟩) ⟨bb_blind ka_bl _, va_recv K hP (ci := 3) (q0 := 0) rfl rfl, ka_pre K hP _⟩ rfl rfl hl.1 rfl (lv_room (Nat.le_of_ble_eq_true rfl)) dX3_masterPlan_37 ⟨Nat.le_refl _, Nat.le_refl _⟩) ?_
        refine lv_istore (lv' := [(4, .int (mGuess row n cu q k)), (0, .ref h0), (1, .int (oI ((a).1))), (2, .int ((a).2)), (3, .int (nI k))]) hx hb dX3_masterPlan_40 hl (by decide) rfl (fun ls hl => ?_)
        refine lv_iload_n hx hb dX3_masterPlan_42 rfl (lv_at hl 2 rfl) ?_
        refine x_ifo_lt (tgt := 52) hx hb dX3_masterPlan_43 (by decide) (fun b hb => Nat.lt_trans (hbd b hb) (by omega)) (fun h_5 => ?_) (fun v_6 h_5 => ?_)
        · refine lv_iload_n hx hb dX3_masterPlan_52 rfl (lv_at hl 4 rfl) ?_
          refine lv_istore_n (lv' := [(1, .int (nI k)), (4, .int (mGuess row n cu q k)), (0, .ref h0), (2, .int ((a).2)), (3, .int (nI k))]) hx hb dX3_masterPlan_53 rfl hl (by decide) rfl (fun ls hl => ?_)
          refine lv_iload hx hb dX3_masterPlan_54 (lv_at hl 1 rfl) ?_
          refine lv_istore_n (lv' := [(2, .int (mGuess row n cu q k)), (1, .int (nI k)), (4, .int (mGuess row n cu q k)), (0, .ref h0), (3, .int (nI k))]) hx hb dX3_masterPlan_56 rfl hl (by decide) rfl (fun ls hl => ?_)
          refine lv_iinc (v := nI (k + 1)) (lv' := [(3, .int (nI (k + 1))), (2, .int (mGuess row n cu q k)), (1, .int (nI k)), (4, .int (mGuess row n cu q k)), (0, .ref h0)]) hx hb dX3_masterPlan_57 hl (k := 4) rfl (nI_1 k) (by decide) rfl (fun ls hl => ?_)
          refine lv_goto (tgt := 7) hx hb dX3_masterPlan_60 (by decide) ?_
          refine ih ls ?_
          show lv_has ls 5 [(0, .ref h0), (1, .int (oI (((mMpS row n cu q) k a).1))), (2, .int (((mMpS row n cu q) k a).2)), (3, .int (nI (k + 1)))]
          rw [show oI (((mMpS row n cu q) k a).1) = nI k from (by simp [mMpS, oI_s, oI_n, h_3, h_4, h_5])]
          rw [show ((mMpS row n cu q) k a).2 = mGuess row n cu q k from (by simp [mMpS, oI_s, oI_n, h_3, h_4, h_5])]
          exact lv_sub hl [4, 2, 1, 0] rfl
        · refine lv_iload hx hb dX3_masterPlan_46 (lv_at hl 0 rfl) ?_
          refine lv_iload_n hx hb dX3_masterPlan_48 rfl (lv_at hl 3 rfl) ?_
          refine lv_icmp_ge (tgt := 57) hx hb dX3_masterPlan_49 (by decide) (fun h_7 => ?_) (fun h_7 => ?_)
          · refine lv_iinc (v := nI (k + 1)) (lv' := [(3, .int (nI (k + 1))), (4, .int (mGuess row n cu q k)), (0, .ref h0), (1, .int (oI ((a).1))), (2, .int ((a).2))]) hx hb dX3_masterPlan_57 hl (k := 4) rfl (nI_1 k) (by decide) rfl (fun ls hl => ?_)
            refine lv_goto (tgt := 7) hx hb dX3_masterPlan_60 (by decide) ?_
            refine ih ls ?_
            show lv_has ls 5 [(0, .ref h0), (1, .int (oI (((mMpS row n cu q) k a).1))), (2, .int (((mMpS row n cu q) k a).2)), (3, .int (nI (k + 1)))]
            rw [show oI (((mMpS row n cu q) k a).1) = oI ((a).1) from (by simp [mMpS, oI_s, oI_n, h_3, h_4, h_5, h_7])]
            rw [show ((mMpS row n cu q) k a).2 = (a).2 from (by simp [mMpS, oI_s, oI_n, h_3, h_4, h_5, h_7])]
            exact lv_sub hl [2, 3, 4, 0] rfl
          · refine lv_iload_n hx hb dX3_masterPlan_52 rfl (lv_at hl 4 rfl) ?_
            refine lv_istore_n (lv' := [(1, .int (nI k)), (4, .int (mGuess row n cu q k)), (0, .ref h0), (2, .int ((a).2)), (3, .int (nI k))]) hx hb dX3_masterPlan_53 rfl hl (by decide) rfl (fun ls hl => ?_)
            refine lv_iload hx hb dX3_masterPlan_54 (lv_at hl 1 rfl) ?_
            refine lv_istore_n (lv' := [(2, .int (mGuess row n cu q k)), (1, .int (nI k)), (4, .int (mGuess row n cu q k)), (0, .ref h0), (3, .int (nI k))]) hx hb dX3_masterPlan_56 rfl hl (by decide) rfl (fun ls hl => ?_)
            refine lv_iinc (v := nI (k + 1)) (lv' := [(3, .int (nI (k + 1))), (2, .int (mGuess row n cu q k)), (1, .int (nI k)), (4, .int (mGuess row n cu q k)), (0, .ref h0)]) hx hb dX3_masterPlan_57 hl (k := 4) rfl (nI_1 k) (by decide) rfl (fun ls hl => ?_)
            refine lv_goto (tgt := 7) hx hb dX3_masterPlan_60 (by decide) ?_
            refine ih ls ?_
            show lv_has ls 5 [(0, .ref h0), (1, .int (oI (((mMpS row n cu q) k a).1))), (2, .int (((mMpS row n cu q) k a).2)), (3, .int (nI (k + 1)))]
            rw [show oI (((mMpS row n cu q) k a).1) = nI k from (by simp [mMpS, oI_s, oI_n, h_3, h_4, h_5, h_7])]
            rw [show ((mMpS row n cu q) k a).2 = mGuess row n cu q k from (by simp [mMpS, oI_s, oI_n, h_3, h_4, h_5, h_7])]
            exact lv_sub hl [4, 2, 1, 0] rfl
  · intro ls hl
    have hl : lv_has ls 5 [(0, .ref h0), (1, .int (oI ((iter (mMpS row n cu q) (2 ^ n) 0 (none, nI 0)).1))), (2, .int ((iter (mMpS row n cu q) (2 ^ n) 0 (none, nI 0)).2)), (3, .int (nI (2 ^ n)))] := hl
    show W p l e (rmR 4 160) s m ([.ref h0]).toArray below meth c s.heap [] 0 0 (MQ below (QRet (some (.int (oI (mMaster row n cu q))))) ([.ref h0]).toArray s 0 0 (fun _ => False)) (F0 m 7 ls [])
    refine lv_iload_n hx hb dX3_masterPlan_7 rfl (lv_at hl 3 rfl) ?_
    refine lv_iconst (v := nI 1) hx hb dX3_masterPlan_8 (by decide) ?_
    refine lv_aload_n hx hb dX3_masterPlan_9 rfl (lv_at hl 0 rfl) ?_
    refine va_get (D := D) (ci := 3) (C := RX3) (T := TX3) (N := 10) hx hb hts in_X3 hown K hP 0 rfl rfl 0 (by decide) (hts _ q1075) (fun _ h9 => h9) rfl dX3_masterPlan_10 ?_
    refine lv_iconst (v := nI 0) hx hb dX3_masterPlan_13 (by decide) ?_
    refine x_iald hx hb K hP 1 0 rfl rfl 0 rfl (by omega) (by decide) e0 dX3_masterPlan_14 ?_
    refine lv_ishl hx hb dX3_masterPlan_15 ?_
    refine x_top (y := nI (2 ^ n)) (nx_shl (by omega)) ?_
    refine lv_icmp_ge (tgt := 63) hx hb dX3_masterPlan_16 (by decide) (fun _ => ?_) (fun h => absurd (nI_le (by omega) (by omega)) h)
    refine lv_iload_n hx hb dX3_masterPlan_63 rfl (lv_at hl 1 rfl) ?_
    exact x_iret hx hb hrt hlk rfl dX3_masterPlan_64

set_option maxHeartbeats 4000000 in
theorem mr_noSite (l : Launch) (D : va_G) (dA : Nat → ClassId) (h0 hr : Nat) (fs : List Value) (row : Nat → Int32) {n cu q : Nat} (w : MWf row n cu q) (x : Int32) : RO l yX3_noSite cX3_noSite 2 (some .boolean) 1 40 [.ref h0, .int x] (KA D dA) (MRo D dA h0 hr fs row) (some (.int (bI (mNo n x)))) := by
  refine ro_of (by decide) (Nat.le_of_ble_eq_true rfl) ?_
  intro p e s m below meth c S hrt hlk K hP ls hl
  obtain ⟨hx, hb, hml, hown, hts⟩ := id S
  obtain ⟨e0, hn, e1, hcu, e3, hq, hray⟩ := id w
  have hl : lv_has ls 2 [(0, .ref h0), (1, .int x)] := hl
  refine lv_iload_n hx hb dX3_noSite_0 rfl (lv_at hl 1 rfl) ?_
  refine lv_iconst (v := nI 0) hx hb dX3_noSite_1 (by decide) ?_
  refine lv_aload_n hx hb dX3_noSite_2 rfl (lv_at hl 0 rfl) ?_
  refine va_get (D := D) (ci := 3) (C := RX3) (T := TX3) (N := 10) hx hb hts in_X3 hown K hP 0 rfl rfl 0 (by decide) (hts _ q1075) (fun _ h9 => h9) rfl dX3_noSite_3 ?_
  refine lv_iconst (v := nI 0) hx hb dX3_noSite_6 (by decide) ?_
  refine x_iald hx hb K hP 1 0 rfl rfl 0 rfl (by omega) (by decide) e0 dX3_noSite_7 ?_
  refine lv_iconst (v := nI 1) hx hb dX3_noSite_8 (by decide) ?_
  refine lv_isub hx hb dX3_noSite_9 ?_
  refine x_ret (va_runS (As := [.int x, .int (nI 0), .int ((nI n) - (nI 1))]) (rest := []) S (mr_in l x (nI 0) ((nI n) - (nI 1))) (va_cwS 3 hts (lw_S q1135 q1136 q69 q1137) rfl rfl rfl hdX3_in ⟨Nat.le_of_ble_eq_true rfl, Nat.le_of_ble_eq_true rfl⟩) ⟨bb_blind tt_bl _, tt_pre _⟩ rfl rfl hl.1 rfl (lv_room (Nat.le_of_ble_eq_true rfl)) dX3_noSite_10 ⟨Nat.le_refl _, Nat.le_refl _⟩) ?_
  refine x_ifb_ne (tgt := 20) hx hb dX3_noSite_13 (by decide) (fun h_1 => ?_) (fun h_1 => ?_)
  · refine lv_iconst (v := nI 0) hx hb dX3_noSite_20 (by decide) ?_
    exact x_zret hx hb hrt hlk (by rw [mNo, if_pos h_1]; rfl) dX3_noSite_21
  · refine lv_iconst (v := nI 1) hx hb dX3_noSite_16 (by decide) ?_
    refine lv_goto (tgt := 21) hx hb dX3_noSite_17 (by decide) ?_
    exact x_zret hx hb hrt hlk (by rw [mNo, if_neg (by rw [h_1]; decide)]; rfl) dX3_noSite_21

set_option maxHeartbeats 4000000 in
theorem mr_noCustomer (l : Launch) (D : va_G) (dA : Nat → ClassId) (h0 hr : Nat) (fs : List Value) (row : Nat → Int32) {n cu q : Nat} (w : MWf row n cu q) (x : Int32) : RO l yX3_noCustomer cX3_noCustomer 2 (some .boolean) 1 40 [.ref h0, .int x] (KA D dA) (MRo D dA h0 hr fs row) (some (.int (bI (mNo cu x)))) := by
  refine ro_of (by decide) (Nat.le_of_ble_eq_true rfl) ?_
  intro p e s m below meth c S hrt hlk K hP ls hl
  obtain ⟨hx, hb, hml, hown, hts⟩ := id S
  obtain ⟨e0, hn, e1, hcu, e3, hq, hray⟩ := id w
  have hl : lv_has ls 2 [(0, .ref h0), (1, .int x)] := hl
  refine lv_iload_n hx hb dX3_noCustomer_0 rfl (lv_at hl 1 rfl) ?_
  refine lv_iconst (v := nI 0) hx hb dX3_noCustomer_1 (by decide) ?_
  refine lv_aload_n hx hb dX3_noCustomer_2 rfl (lv_at hl 0 rfl) ?_
  refine va_get (D := D) (ci := 3) (C := RX3) (T := TX3) (N := 10) hx hb hts in_X3 hown K hP 0 rfl rfl 0 (by decide) (hts _ q1075) (fun _ h9 => h9) rfl dX3_noCustomer_3 ?_
  refine lv_iconst (v := nI 1) hx hb dX3_noCustomer_6 (by decide) ?_
  refine x_iald hx hb K hP 1 0 rfl rfl 1 rfl (by omega) (by decide) e1 dX3_noCustomer_7 ?_
  refine lv_iconst (v := nI 1) hx hb dX3_noCustomer_8 (by decide) ?_
  refine lv_isub hx hb dX3_noCustomer_9 ?_
  refine x_ret (va_runS (As := [.int x, .int (nI 0), .int ((nI cu) - (nI 1))]) (rest := []) S (mr_in l x (nI 0) ((nI cu) - (nI 1))) (va_cwS 3 hts (lw_S q1135 q1136 q69 q1137) rfl rfl rfl hdX3_in ⟨Nat.le_of_ble_eq_true rfl, Nat.le_of_ble_eq_true rfl⟩) ⟨bb_blind tt_bl _, tt_pre _⟩ rfl rfl hl.1 rfl (lv_room (Nat.le_of_ble_eq_true rfl)) dX3_noCustomer_10 ⟨Nat.le_refl _, Nat.le_refl _⟩) ?_
  refine x_ifb_ne (tgt := 20) hx hb dX3_noCustomer_13 (by decide) (fun h_1 => ?_) (fun h_1 => ?_)
  · refine lv_iconst (v := nI 0) hx hb dX3_noCustomer_20 (by decide) ?_
    exact x_zret hx hb hrt hlk (by rw [mNo, if_pos h_1]; rfl) dX3_noCustomer_21
  · refine lv_iconst (v := nI 1) hx hb dX3_noCustomer_16 (by decide) ?_
    refine lv_goto (tgt := 21) hx hb dX3_noCustomer_17 (by decide) ?_
    exact x_zret hx hb hrt hlk (by rw [mNo, if_neg (by rw [h_1]; decide)]; rfl) dX3_noCustomer_21

set_option maxHeartbeats 4000000 in
theorem mr_noCut (l : Launch) (D : va_G) (dA : Nat → ClassId) (h0 hr : Nat) (fs : List Value) (row : Nat → Int32) {n cu q : Nat} (w : MWf row n cu q) (x : Int32) : RO l yX3_noCut cX3_noCut 2 (some .boolean) 1 40 [.ref h0, .int x] (KA D dA) (MRo D dA h0 hr fs row) (some (.int (bI (mNo q x)))) := by
  refine ro_of (by decide) (Nat.le_of_ble_eq_true rfl) ?_
  intro p e s m below meth c S hrt hlk K hP ls hl
  obtain ⟨hx, hb, hml, hown, hts⟩ := id S
  obtain ⟨e0, hn, e1, hcu, e3, hq, hray⟩ := id w
  have hl : lv_has ls 2 [(0, .ref h0), (1, .int x)] := hl
  refine lv_iload_n hx hb dX3_noCut_0 rfl (lv_at hl 1 rfl) ?_
  refine lv_iconst (v := nI 0) hx hb dX3_noCut_1 (by decide) ?_
  refine lv_aload_n hx hb dX3_noCut_2 rfl (lv_at hl 0 rfl) ?_
  refine va_get (D := D) (ci := 3) (C := RX3) (T := TX3) (N := 10) hx hb hts in_X3 hown K hP 0 rfl rfl 0 (by decide) (hts _ q1075) (fun _ h9 => h9) rfl dX3_noCut_3 ?_
  refine lv_iconst (v := nI 3) hx hb dX3_noCut_6 (by decide) ?_
  refine x_iald hx hb K hP 1 0 rfl rfl 3 rfl (by omega) (by decide) e3 dX3_noCut_7 ?_
  refine lv_iconst (v := nI 1) hx hb dX3_noCut_8 (by decide) ?_
  refine lv_isub hx hb dX3_noCut_9 ?_
  refine x_ret (va_runS (As := [.int x, .int (nI 0), .int ((nI q) - (nI 1))]) (rest := []) S (mr_in l x (nI 0) ((nI q) - (nI 1))) (va_cwS 3 hts (lw_S q1135 q1136 q69 q1137) rfl rfl rfl hdX3_in ⟨Nat.le_of_ble_eq_true rfl, Nat.le_of_ble_eq_true rfl⟩) ⟨bb_blind tt_bl _, tt_pre _⟩ rfl rfl hl.1 rfl (lv_room (Nat.le_of_ble_eq_true rfl)) dX3_noCut_10 ⟨Nat.le_refl _, Nat.le_refl _⟩) ?_
  refine x_ifb_ne (tgt := 20) hx hb dX3_noCut_13 (by decide) (fun h_1 => ?_) (fun h_1 => ?_)
  · refine lv_iconst (v := nI 0) hx hb dX3_noCut_20 (by decide) ?_
    exact x_zret hx hb hrt hlk (by rw [mNo, if_pos h_1]; rfl) dX3_noCut_21
  · refine lv_iconst (v := nI 1) hx hb dX3_noCut_16 (by decide) ?_
    refine lv_goto (tgt := 21) hx hb dX3_noCut_17 (by decide) ?_
    exact x_zret hx hb hrt hlk (by rw [mNo, if_neg (by rw [h_1]; decide)]; rfl) dX3_noCut_21

set_option maxHeartbeats 4000000 in
theorem mr_noPlan (l : Launch) (D : va_G) (dA : Nat → ClassId) (h0 hr : Nat) (fs : List Value) (row : Nat → Int32) {n cu q : Nat} (w : MWf row n cu q) (x : Int32) : RO l yX3_noPlan cX3_noPlan 2 (some .boolean) 1 40 [.ref h0, .int x] (KA D dA) (MRo D dA h0 hr fs row) (some (.int (bI (mNo (2 ^ n) x)))) := by
  refine ro_of (by decide) (Nat.le_of_ble_eq_true rfl) ?_
  intro p e s m below meth c S hrt hlk K hP ls hl
  obtain ⟨hx, hb, hml, hown, hts⟩ := id S
  obtain ⟨e0, hn, e1, hcu, e3, hq, hray⟩ := id w
  have h2n := pow7 hn
  have hl : lv_has ls 2 [(0, .ref h0), (1, .int x)] := hl
  refine lv_iload_n hx hb dX3_noPlan_0 rfl (lv_at hl 1 rfl) ?_
  refine lv_iconst (v := nI 0) hx hb dX3_noPlan_1 (by decide) ?_
  refine lv_iconst (v := nI 1) hx hb dX3_noPlan_2 (by decide) ?_
  refine lv_aload_n hx hb dX3_noPlan_3 rfl (lv_at hl 0 rfl) ?_
  refine va_get (D := D) (ci := 3) (C := RX3) (T := TX3) (N := 10) hx hb hts in_X3 hown K hP 0 rfl rfl 0 (by decide) (hts _ q1075) (fun _ h9 => h9) rfl dX3_noPlan_4 ?_
  refine lv_iconst (v := nI 0) hx hb dX3_noPlan_7 (by decide) ?_
  refine x_iald hx hb K hP 1 0 rfl rfl 0 rfl (by omega) (by decide) e0 dX3_noPlan_8 ?_
  refine lv_ishl hx hb dX3_noPlan_9 ?_
  refine x_top (y := nI (2 ^ n)) (nx_shl (by omega)) ?_
  refine lv_iconst (v := nI 1) hx hb dX3_noPlan_10 (by decide) ?_
  refine lv_isub hx hb dX3_noPlan_11 ?_
  refine x_ret (va_runS (As := [.int x, .int (nI 0), .int ((nI (2 ^ n)) - (nI 1))]) (rest := []) S (mr_in l x (nI 0) ((nI (2 ^ n)) - (nI 1))) (va_cwS 3 hts (lw_S q1135 q1136 q69 q1137) rfl rfl rfl hdX3_in ⟨Nat.le_of_ble_eq_true rfl, Nat.le_of_ble_eq_true rfl⟩) ⟨bb_blind tt_bl _, tt_pre _⟩ rfl rfl hl.1 rfl (lv_room (Nat.le_of_ble_eq_true rfl)) dX3_noPlan_12 ⟨Nat.le_refl _, Nat.le_refl _⟩) ?_
  refine x_ifb_ne (tgt := 22) hx hb dX3_noPlan_15 (by decide) (fun h_1 => ?_) (fun h_1 => ?_)
  · refine lv_iconst (v := nI 0) hx hb dX3_noPlan_22 (by decide) ?_
    exact x_zret hx hb hrt hlk (by rw [mNo, if_pos h_1]; rfl) dX3_noPlan_23
  · refine lv_iconst (v := nI 1) hx hb dX3_noPlan_18 (by decide) ?_
    refine lv_goto (tgt := 23) hx hb dX3_noPlan_19 (by decide) ?_
    exact x_zret hx hb hrt hlk (by rw [mNo, if_neg (by rw [h_1]; decide)]; rfl) dX3_noPlan_23

