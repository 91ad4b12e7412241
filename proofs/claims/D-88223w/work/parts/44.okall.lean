/-! all methods have what they need -/
set_option maxRecDepth 100000
theorem za_n9 {G : zY → Prop} : ∀ r ∈ ([] : List zY), G r := fun _ h => by cases h
theorem za_c9 {G : zY → Prop} {k : zY} {ks : List zY} (h1 : G k) (h2 : ∀ r ∈ ks, G r) : ∀ r ∈ k :: ks, G r := fun r h => by
  rcases List.mem_cons.mp h with rfl | h
  · exact h1
  · exact h2 r h
theorem zmk_J0_init : zmok zml zy_J0_init := ⟨by decide +kernel, Nat.le_of_ble_eq_true rfl, q117, zo_J0_init_0, Or.inl ⟨rfl, rfl⟩⟩
theorem zmk_J0_init_2 : zmok zml zy_J0_init_2 := ⟨by decide +kernel, Nat.le_of_ble_eq_true rfl, q144, zo_J0_init_2_0, Or.inl ⟨rfl, rfl⟩⟩
theorem zmk_J1_init : zmok zml zy_J1_init := ⟨by decide +kernel, Nat.le_of_ble_eq_true rfl, q141, zo_J1_init_0, Or.inl ⟨rfl, rfl⟩⟩
theorem zmk_J2_init : zmok zml zy_J2_init := ⟨by decide +kernel, Nat.le_of_ble_eq_true rfl, q138, zo_J2_init_0, Or.inl ⟨rfl, rfl⟩⟩
theorem zmk_J3_init : zmok zml zy_J3_init := ⟨by decide +kernel, Nat.le_of_ble_eq_true rfl, q482, zo_J3_init_0, Or.inl ⟨rfl, rfl⟩⟩
theorem zmk_J3_rangeCheck : zmok zml zy_J3_rangeCheck := ⟨by decide +kernel, Nat.le_of_ble_eq_true rfl, q485, zo_J3_rangeCheck_0, Or.inl ⟨rfl, rfl⟩⟩
theorem zmk_J3_checkBoundsOffCount : zmok zml zy_J3_checkBoundsOffCount := ⟨by decide +kernel, Nat.le_of_ble_eq_true rfl, q488, zo_J3_checkBoundsOffCount_0, Or.inl ⟨rfl, rfl⟩⟩
theorem zmk_J3_init_2 : zmok zml zy_J3_init_2 := ⟨by decide +kernel, Nat.le_of_ble_eq_true rfl, q496, zo_J3_init_2_0, Or.inl ⟨rfl, rfl⟩⟩
theorem zmk_J3_equals : zmok zml zy_J3_equals := ⟨by decide +kernel, Nat.le_of_ble_eq_true rfl, q588, zo_J3_equals_0, Or.inl ⟨rfl, rfl⟩⟩
theorem zmk_J3_hashCode : zmok zml zy_J3_hashCode := ⟨by decide +kernel, Nat.le_of_ble_eq_true rfl, q599, zo_J3_hashCode_0, Or.inl ⟨rfl, rfl⟩⟩
theorem zmk_J3_isLatin1 : zmok zml zy_J3_isLatin1 := ⟨by decide +kernel, Nat.le_of_ble_eq_true rfl, q603, zo_J3_isLatin1_0, Or.inl ⟨rfl, rfl⟩⟩
theorem zmk_J3_length : zmok zml zy_J3_length := ⟨by decide +kernel, Nat.le_of_ble_eq_true rfl, q1458, zo_J3_length_0, Or.inl ⟨rfl, rfl⟩⟩
theorem zmk_J3_coder : zmok zml zy_J3_coder := ⟨by decide +kernel, Nat.le_of_ble_eq_true rfl, q1462, zo_J3_coder_0, Or.inl ⟨rfl, rfl⟩⟩
theorem zmk_J3_charAt : zmok zml zy_J3_charAt := ⟨by decide +kernel, Nat.le_of_ble_eq_true rfl, q1466, zo_J3_charAt_0, Or.inl ⟨rfl, rfl⟩⟩
theorem zmk_J3_checkIndex : zmok zml zy_J3_checkIndex := ⟨by decide +kernel, Nat.le_of_ble_eq_true rfl, q1472, zo_J3_checkIndex_0, Or.inl ⟨rfl, rfl⟩⟩
theorem zmk_J4_checkFromIndexSize : zmok zml zy_J4_checkFromIndexSize := ⟨by decide +kernel, Nat.le_of_ble_eq_true rfl, q493, zo_J4_checkFromIndexSize_0, Or.inl ⟨rfl, rfl⟩⟩
theorem zmk_J4_checkIndex : zmok zml zy_J4_checkIndex := ⟨by decide +kernel, Nat.le_of_ble_eq_true rfl, q1475, zo_J4_checkIndex_0, Or.inl ⟨rfl, rfl⟩⟩
theorem zmk_J5_compress : zmok zml zy_J5_compress := ⟨by decide +kernel, Nat.le_of_ble_eq_true rfl, q503, zo_J5_compress_0, Or.inl ⟨rfl, rfl⟩⟩
theorem zmk_J5_compress_2 : zmok zml zy_J5_compress_2 := ⟨by decide +kernel, Nat.le_of_ble_eq_true rfl, q506, zo_J5_compress_2_0, Or.inl ⟨rfl, rfl⟩⟩
theorem zmk_J5_coderFromArrayLen : zmok zml zy_J5_coderFromArrayLen := ⟨by decide +kernel, Nat.le_of_ble_eq_true rfl, q541, zo_J5_coderFromArrayLen_0, Or.inl ⟨rfl, rfl⟩⟩
theorem zmk_J6_equals : zmok zml zy_J6_equals := ⟨by decide +kernel, Nat.le_of_ble_eq_true rfl, q592, zo_J6_equals_0, Or.inl ⟨rfl, rfl⟩⟩
theorem zmk_J6_hashCode : zmok zml zy_J6_hashCode := ⟨by decide +kernel, Nat.le_of_ble_eq_true rfl, q606, zo_J6_hashCode_0, Or.inl ⟨rfl, rfl⟩⟩
theorem zmk_J6_charAt : zmok zml zy_J6_charAt := ⟨by decide +kernel, Nat.le_of_ble_eq_true rfl, q1469, zo_J6_charAt_0, Or.inl ⟨rfl, rfl⟩⟩
theorem zmk_J7_vectorizedHashCode : zmok zml zy_J7_vectorizedHashCode := ⟨by decide +kernel, Nat.le_of_ble_eq_true rfl, q609, zo_J7_vectorizedHashCode_0, Or.inl ⟨rfl, rfl⟩⟩
theorem zmk_J7_signedHashCode : zmok zml zy_J7_signedHashCode := ⟨by decide +kernel, Nat.le_of_ble_eq_true rfl, q613, zo_J7_signedHashCode_0, Or.inl ⟨rfl, rfl⟩⟩
theorem zmk_J8_max : zmok zml zy_J8_max := ⟨by decide +kernel, Nat.le_of_ble_eq_true rfl, q929, zo_J8_max_0, Or.inl ⟨rfl, rfl⟩⟩
theorem zmk_J8_min : zmok zml zy_J8_min := ⟨by decide +kernel, Nat.le_of_ble_eq_true rfl, q952, zo_J8_min_0, Or.inl ⟨rfl, rfl⟩⟩
theorem zmk_X0_init : zmok zml zy_X0_init := ⟨by decide +kernel, Nat.le_of_ble_eq_true rfl, q83, zo_X0_init_0, Or.inl ⟨rfl, rfl⟩⟩
theorem zmk_X0_leg : zmok zml zy_X0_leg := ⟨by decide +kernel, Nat.le_of_ble_eq_true rfl, q423, zo_X0_leg_0, Or.inr ⟨4, 80, 83, 133, 2, zq_2, rfl, rfl, rfl, by decide, q369, (List.mem_of_getElem? (i := 0) rfl), by decide +kernel⟩⟩
theorem zmk_X0_begins : zmok zml zy_X0_begins := ⟨by decide +kernel, Nat.le_of_ble_eq_true rfl, q427, zo_X0_begins_0, Or.inl ⟨rfl, rfl⟩⟩
theorem zmk_X0_must : zmok zml zy_X0_must := ⟨by decide +kernel, Nat.le_of_ble_eq_true rfl, q431, zo_X0_must_0, Or.inl ⟨rfl, rfl⟩⟩
theorem zmk_X0_in : zmok zml zy_X0_in := ⟨by decide +kernel, Nat.le_of_ble_eq_true rfl, q438, zo_X0_in_0, Or.inl ⟨rfl, rfl⟩⟩
theorem zmk_X0_refuses : zmok zml zy_X0_refuses := ⟨by decide +kernel, Nat.le_of_ble_eq_true rfl, q442, zo_X0_refuses_0, Or.inl ⟨rfl, rfl⟩⟩
theorem zmk_X0_cold : zmok zml zy_X0_cold := ⟨by decide +kernel, Nat.le_of_ble_eq_true rfl, q446, zo_X0_cold_0, Or.inl ⟨rfl, rfl⟩⟩
theorem zmk_X0_feed : zmok zml zy_X0_feed := ⟨by decide +kernel, Nat.le_of_ble_eq_true rfl, q450, zo_X0_feed_0, Or.inl ⟨rfl, rfl⟩⟩
theorem zmk_X0_word : zmok zml zy_X0_word := ⟨by decide +kernel, Nat.le_of_ble_eq_true rfl, q454, zo_X0_word_0, Or.inl ⟨rfl, rfl⟩⟩
theorem zmk_X0_plan : zmok zml zy_X0_plan := ⟨by decide +kernel, Nat.le_of_ble_eq_true rfl, q458, zo_X0_plan_0, Or.inr ⟨18, 45, 48, 133, 2, zq_2, rfl, rfl, rfl, by decide, q369, (List.mem_of_getElem? (i := 0) rfl), by decide +kernel⟩⟩
theorem zmk_X0_takes : zmok zml zy_X0_takes := ⟨by decide +kernel, Nat.le_of_ble_eq_true rfl, q462, zo_X0_takes_0, Or.inl ⟨rfl, rfl⟩⟩
theorem zmk_X0_actOf : zmok zml zy_X0_actOf := ⟨by decide +kernel, Nat.le_of_ble_eq_true rfl, q595, zo_X0_actOf_0, Or.inl ⟨rfl, rfl⟩⟩
theorem zmk_X0_nameOf : zmok zml zy_X0_nameOf := ⟨by decide +kernel, Nat.le_of_ble_eq_true rfl, q699, zo_X0_nameOf_0, Or.inl ⟨rfl, rfl⟩⟩
theorem zmk_X0_laws : zmok zml zy_X0_laws := ⟨by decide +kernel, Nat.le_of_ble_eq_true rfl, q750, zo_X0_laws_0, Or.inr ⟨12, 126, 129, 133, 2, zq_2, rfl, rfl, rfl, by decide, q369, (List.mem_of_getElem? (i := 0) rfl), by decide +kernel⟩⟩
theorem zmk_X0_lawOf : zmok zml zy_X0_lawOf := ⟨by decide +kernel, Nat.le_of_ble_eq_true rfl, q756, zo_X0_lawOf_0, Or.inl ⟨rfl, rfl⟩⟩
theorem zmk_X0_fault : zmok zml zy_X0_fault := ⟨by decide +kernel, Nat.le_of_ble_eq_true rfl, q838, zo_X0_fault_0, Or.inl ⟨rfl, rfl⟩⟩
theorem zmk_X0_where : zmok zml zy_X0_where := ⟨by decide +kernel, Nat.le_of_ble_eq_true rfl, q842, zo_X0_where_0, Or.inl ⟨rfl, rfl⟩⟩
theorem zmk_X0_team : zmok zml zy_X0_team := ⟨by decide +kernel, Nat.le_of_ble_eq_true rfl, q846, zo_X0_team_0, Or.inr ⟨4, 126, 129, 133, 2, zq_2, rfl, rfl, rfl, by decide, q369, (List.mem_of_getElem? (i := 0) rfl), by decide +kernel⟩⟩
theorem zmk_X0_follow : zmok zml zy_X0_follow := ⟨by decide +kernel, Nat.le_of_ble_eq_true rfl, q862, zo_X0_follow_0, Or.inr ⟨4, 62, 65, 133, 2, zq_2, rfl, rfl, rfl, by decide, q369, (List.mem_of_getElem? (i := 0) rfl), by decide +kernel⟩⟩
theorem zmk_X0_isTeam : zmok zml zy_X0_isTeam := ⟨by decide +kernel, Nat.le_of_ble_eq_true rfl, q866, zo_X0_isTeam_0, Or.inl ⟨rfl, rfl⟩⟩
theorem zmk_X0_gap : zmok zml zy_X0_gap := ⟨by decide +kernel, Nat.le_of_ble_eq_true rfl, q870, zo_X0_gap_0, Or.inr ⟨4, 116, 117, 133, 2, zq_2, rfl, rfl, rfl, by decide, q369, (List.mem_of_getElem? (i := 0) rfl), by decide +kernel⟩⟩
theorem zmk_X0_each : zmok zml zy_X0_each := ⟨by decide +kernel, Nat.le_of_ble_eq_true rfl, q874, zo_X0_each_0, Or.inr ⟨4, 36, 39, 133, 2, zq_2, rfl, rfl, rfl, by decide, q369, (List.mem_of_getElem? (i := 0) rfl), by decide +kernel⟩⟩
theorem zmk_X0_run : zmok zml zy_X0_run := ⟨by decide +kernel, Nat.le_of_ble_eq_true rfl, q878, zo_X0_run_0, Or.inr ⟨4, 29, 32, 133, 2, zq_2, rfl, rfl, rfl, by decide, q369, (List.mem_of_getElem? (i := 0) rfl), by decide +kernel⟩⟩
theorem zmk_X0_about : zmok zml zy_X0_about := ⟨by decide +kernel, Nat.le_of_ble_eq_true rfl, q968, zo_X0_about_0, Or.inl ⟨rfl, rfl⟩⟩
theorem zmk_X0_dog : zmok zml zy_X0_dog := ⟨by decide +kernel, Nat.le_of_ble_eq_true rfl, q975, zo_X0_dog_0, Or.inl ⟨rfl, rfl⟩⟩
theorem zmk_X0_time : zmok zml zy_X0_time := ⟨by decide +kernel, Nat.le_of_ble_eq_true rfl, q979, zo_X0_time_0, Or.inl ⟨rfl, rfl⟩⟩
theorem zmk_X0_did : zmok zml zy_X0_did := ⟨by decide +kernel, Nat.le_of_ble_eq_true rfl, q983, zo_X0_did_0, Or.inl ⟨rfl, rfl⟩⟩
theorem zmk_X0_result : zmok zml zy_X0_result := ⟨by decide +kernel, Nat.le_of_ble_eq_true rfl, q987, zo_X0_result_0, Or.inl ⟨rfl, rfl⟩⟩
theorem zmk_X0_home : zmok zml zy_X0_home := ⟨by decide +kernel, Nat.le_of_ble_eq_true rfl, q991, zo_X0_home_0, Or.inl ⟨rfl, rfl⟩⟩
theorem zmk_X0_resultOf : zmok zml zy_X0_resultOf := ⟨by decide +kernel, Nat.le_of_ble_eq_true rfl, q995, zo_X0_resultOf_0, Or.inl ⟨rfl, rfl⟩⟩
theorem zmk_X0_lacks : zmok zml zy_X0_lacks := ⟨by decide +kernel, Nat.le_of_ble_eq_true rfl, q1045, zo_X0_lacks_0, Or.inl ⟨rfl, rfl⟩⟩
theorem zmk_X0_place : zmok zml zy_X0_place := ⟨by decide +kernel, Nat.le_of_ble_eq_true rfl, q1049, zo_X0_place_0, Or.inl ⟨rfl, rfl⟩⟩
theorem zmk_X0_isAhead : zmok zml zy_X0_isAhead := ⟨by decide +kernel, Nat.le_of_ble_eq_true rfl, q1053, zo_X0_isAhead_0, Or.inl ⟨rfl, rfl⟩⟩
theorem zmk_X0_came : zmok zml zy_X0_came := ⟨by decide +kernel, Nat.le_of_ble_eq_true rfl, q1057, zo_X0_came_0, Or.inl ⟨rfl, rfl⟩⟩
theorem zmk_X0_spot : zmok zml zy_X0_spot := ⟨by decide +kernel, Nat.le_of_ble_eq_true rfl, q1061, zo_X0_spot_0, Or.inl ⟨rfl, rfl⟩⟩
theorem zmk_X0_signs : zmok zml zy_X0_signs := ⟨by decide +kernel, Nat.le_of_ble_eq_true rfl, q1071, zo_X0_signs_0, Or.inl ⟨rfl, rfl⟩⟩
theorem zmk_X0_replay : zmok zml zy_X0_replay := ⟨by decide +kernel, Nat.le_of_ble_eq_true rfl, q1075, zo_X0_replay_0, Or.inr ⟨4, 47, 50, 133, 2, zq_2, rfl, rfl, rfl, by decide, q369, (List.mem_of_getElem? (i := 0) rfl), by decide +kernel⟩⟩
theorem zmk_X0_keep : zmok zml zy_X0_keep := ⟨by decide +kernel, Nat.le_of_ble_eq_true rfl, q1080, zo_X0_keep_0, Or.inl ⟨rfl, rfl⟩⟩
theorem zmk_X0_back : zmok zml zy_X0_back := ⟨by decide +kernel, Nat.le_of_ble_eq_true rfl, q1099, zo_X0_back_0, Or.inl ⟨rfl, rfl⟩⟩
theorem zmk_X0_law : zmok zml zy_X0_law := ⟨by decide +kernel, Nat.le_of_ble_eq_true rfl, q1103, zo_X0_law_0, Or.inl ⟨rfl, rfl⟩⟩
theorem zmk_X0_planned : zmok zml zy_X0_planned := ⟨by decide +kernel, Nat.le_of_ble_eq_true rfl, q1107, zo_X0_planned_0, Or.inl ⟨rfl, rfl⟩⟩
theorem zmk_X0_count : zmok zml zy_X0_count := ⟨by decide +kernel, Nat.le_of_ble_eq_true rfl, q1115, zo_X0_count_0, Or.inl ⟨rfl, rfl⟩⟩
theorem zmk_X0_trouble : zmok zml zy_X0_trouble := ⟨by decide +kernel, Nat.le_of_ble_eq_true rfl, q1119, zo_X0_trouble_0, Or.inl ⟨rfl, rfl⟩⟩
theorem zmk_X1_init : zmok zml zy_X1_init := ⟨by decide +kernel, Nat.le_of_ble_eq_true rfl, q91, zo_X1_init_0, Or.inl ⟨rfl, rfl⟩⟩
theorem zmk_X1_begin : zmok zml zy_X1_begin := ⟨by decide +kernel, Nat.le_of_ble_eq_true rfl, q466, zo_X1_begin_0, Or.inl ⟨rfl, rfl⟩⟩
theorem zmk_X1_next : zmok zml zy_X1_next := ⟨by decide +kernel, Nat.le_of_ble_eq_true rfl, q470, zo_X1_next_0, Or.inl ⟨rfl, rfl⟩⟩
theorem zmk_X1_see : zmok zml zy_X1_see := ⟨by decide +kernel, Nat.le_of_ble_eq_true rfl, q474, zo_X1_see_0, Or.inl ⟨rfl, rfl⟩⟩
theorem zmk_X1_isSmall : zmok zml zy_X1_isSmall := ⟨by decide +kernel, Nat.le_of_ble_eq_true rfl, q477, zo_X1_isSmall_0, Or.inl ⟨rfl, rfl⟩⟩
theorem zmk_X1_isDigit : zmok zml zy_X1_isDigit := ⟨by decide +kernel, Nat.le_of_ble_eq_true rfl, q559, zo_X1_isDigit_0, Or.inl ⟨rfl, rfl⟩⟩
theorem zmk_X1_isWord : zmok zml zy_X1_isWord := ⟨by decide +kernel, Nat.le_of_ble_eq_true rfl, q584, zo_X1_isWord_0, Or.inl ⟨rfl, rfl⟩⟩
theorem zmk_X1_fail : zmok zml zy_X1_fail := ⟨by decide +kernel, Nat.le_of_ble_eq_true rfl, q657, zo_X1_fail_0, Or.inl ⟨rfl, rfl⟩⟩
theorem zmk_X1_takes : zmok zml zy_X1_takes := ⟨by decide +kernel, Nat.le_of_ble_eq_true rfl, q690, zo_X1_takes_0, Or.inl ⟨rfl, rfl⟩⟩
theorem zmk_X1_takes_2 : zmok zml zy_X1_takes_2 := ⟨by decide +kernel, Nat.le_of_ble_eq_true rfl, q721, zo_X1_takes_2_0, Or.inl ⟨rfl, rfl⟩⟩
theorem zmk_X1_number : zmok zml zy_X1_number := ⟨by decide +kernel, Nat.le_of_ble_eq_true rfl, q726, zo_X1_number_0, Or.inl ⟨rfl, rfl⟩⟩
theorem zmk_X1_mustEnd : zmok zml zy_X1_mustEnd := ⟨by decide +kernel, Nat.le_of_ble_eq_true rfl, q746, zo_X1_mustEnd_0, Or.inl ⟨rfl, rfl⟩⟩
theorem zmk_X1_must : zmok zml zy_X1_must := ⟨by decide +kernel, Nat.le_of_ble_eq_true rfl, q790, zo_X1_must_0, Or.inl ⟨rfl, rfl⟩⟩
theorem zmk_X2_init : zmok zml zy_X2_init := ⟨by decide +kernel, Nat.le_of_ble_eq_true rfl, q135, zo_X2_init_0, Or.inl ⟨rfl, rfl⟩⟩
theorem zmk_X2_by : zmok zml zy_X2_by := ⟨by decide +kernel, Nat.le_of_ble_eq_true rfl, q435, zo_X2_by_0, Or.inl ⟨rfl, rfl⟩⟩
theorem zmk_X2_at : zmok zml zy_X2_at := ⟨by decide +kernel, Nat.le_of_ble_eq_true rfl, q661, zo_X2_at_0, Or.inl ⟨rfl, rfl⟩⟩
theorem zmk_X3_init : zmok zml zy_X3_init := ⟨by decide +kernel, Nat.le_of_ble_eq_true rfl, q208, zo_X3_init_0, Or.inl ⟨rfl, rfl⟩⟩
theorem zmk_X3_goesOn : zmok zml zy_X3_goesOn := ⟨by decide +kernel, Nat.le_of_ble_eq_true rfl, q882, zo_X3_goesOn_0, Or.inl ⟨rfl, rfl⟩⟩
theorem zmk_X3_trail : zmok zml zy_X3_trail := ⟨by decide +kernel, Nat.le_of_ble_eq_true rfl, q1065, zo_X3_trail_0, Or.inl ⟨rfl, rfl⟩⟩
theorem zmk_X3_become : zmok zml zy_X3_become := ⟨by decide +kernel, Nat.le_of_ble_eq_true rfl, q1084, zo_X3_become_0, Or.inl ⟨rfl, rfl⟩⟩
theorem zmk_X4_init : zmok zml zy_X4_init := ⟨by decide +kernel, Nat.le_of_ble_eq_true rfl, q215, zo_X4_init_0, Or.inl ⟨rfl, rfl⟩⟩
theorem zmk_X4_enter : zmok zml zy_X4_enter := ⟨by decide +kernel, Nat.le_of_ble_eq_true rfl, q850, zo_X4_enter_0, Or.inl ⟨rfl, rfl⟩⟩
theorem zmk_X4_begin : zmok zml zy_X4_begin := ⟨by decide +kernel, Nat.le_of_ble_eq_true rfl, q854, zo_X4_begin_0, Or.inl ⟨rfl, rfl⟩⟩
theorem zmk_X4_step : zmok zml zy_X4_step := ⟨by decide +kernel, Nat.le_of_ble_eq_true rfl, q886, zo_X4_step_0, Or.inl ⟨rfl, rfl⟩⟩
theorem zmk_X4_told : zmok zml zy_X4_told := ⟨by decide +kernel, Nat.le_of_ble_eq_true rfl, q902, zo_X4_told_0, Or.inl ⟨rfl, rfl⟩⟩
theorem zmk_X4_weakest : zmok zml zy_X4_weakest := ⟨by decide +kernel, Nat.le_of_ble_eq_true rfl, q906, zo_X4_weakest_0, Or.inl ⟨rfl, rfl⟩⟩
theorem zmk_X4_mean : zmok zml zy_X4_mean := ⟨by decide +kernel, Nat.le_of_ble_eq_true rfl, q910, zo_X4_mean_0, Or.inl ⟨rfl, rfl⟩⟩
theorem zmk_X4_pulling : zmok zml zy_X4_pulling := ⟨by decide +kernel, Nat.le_of_ble_eq_true rfl, q914, zo_X4_pulling_0, Or.inl ⟨rfl, rfl⟩⟩
theorem zmk_X4_inState : zmok zml zy_X4_inState := ⟨by decide +kernel, Nat.le_of_ble_eq_true rfl, q918, zo_X4_inState_0, Or.inl ⟨rfl, rfl⟩⟩
theorem zmk_X4_load : zmok zml zy_X4_load := ⟨by decide +kernel, Nat.le_of_ble_eq_true rfl, q922, zo_X4_load_0, Or.inl ⟨rfl, rfl⟩⟩
theorem zmk_X4_go : zmok zml zy_X4_go := ⟨by decide +kernel, Nat.le_of_ble_eq_true rfl, q926, zo_X4_go_0, Or.inl ⟨rfl, rfl⟩⟩
theorem zmk_X4_comes : zmok zml zy_X4_comes := ⟨by decide +kernel, Nat.le_of_ble_eq_true rfl, q933, zo_X4_comes_0, Or.inl ⟨rfl, rfl⟩⟩
theorem zmk_X4_rests : zmok zml zy_X4_rests := ⟨by decide +kernel, Nat.le_of_ble_eq_true rfl, q941, zo_X4_rests_0, Or.inl ⟨rfl, rfl⟩⟩
theorem zmk_X4_gain : zmok zml zy_X4_gain := ⟨by decide +kernel, Nat.le_of_ble_eq_true rfl, q945, zo_X4_gain_0, Or.inl ⟨rfl, rfl⟩⟩
theorem zmk_X4_sign : zmok zml zy_X4_sign := ⟨by decide +kernel, Nat.le_of_ble_eq_true rfl, q956, zo_X4_sign_0, Or.inl ⟨rfl, rfl⟩⟩
theorem zmk_X4_isQuiet : zmok zml zy_X4_isQuiet := ⟨by decide +kernel, Nat.le_of_ble_eq_true rfl, q960, zo_X4_isQuiet_0, Or.inl ⟨rfl, rfl⟩⟩
theorem zmk_X4_way : zmok zml zy_X4_way := ⟨by decide +kernel, Nat.le_of_ble_eq_true rfl, q964, zo_X4_way_0, Or.inl ⟨rfl, rfl⟩⟩
theorem zmk_X4_become : zmok zml zy_X4_become := ⟨by decide +kernel, Nat.le_of_ble_eq_true rfl, q1089, zo_X4_become_0, Or.inl ⟨rfl, rfl⟩⟩
theorem zmk_X5_init : zmok zml zy_X5_init := ⟨by decide +kernel, Nat.le_of_ble_eq_true rfl, q222, zo_X5_init_0, Or.inl ⟨rfl, rfl⟩⟩
theorem zmk_X5_begin : zmok zml zy_X5_begin := ⟨by decide +kernel, Nat.le_of_ble_eq_true rfl, q858, zo_X5_begin_0, Or.inl ⟨rfl, rfl⟩⟩
theorem zmk_X5_leave : zmok zml zy_X5_leave := ⟨by decide +kernel, Nat.le_of_ble_eq_true rfl, q937, zo_X5_leave_0, Or.inl ⟨rfl, rfl⟩⟩
theorem zmk_X5_gain : zmok zml zy_X5_gain := ⟨by decide +kernel, Nat.le_of_ble_eq_true rfl, q949, zo_X5_gain_0, Or.inl ⟨rfl, rfl⟩⟩
theorem zmk_X5_become : zmok zml zy_X5_become := ⟨by decide +kernel, Nat.le_of_ble_eq_true rfl, q1094, zo_X5_become_0, Or.inl ⟨rfl, rfl⟩⟩
theorem zmk_X6_init : zmok zml zy_X6_init := ⟨by decide +kernel, Nat.le_of_ble_eq_true rfl, q1124, zo_X6_init_0, Or.inl ⟨rfl, rfl⟩⟩
theorem zmk_X6_keep : zmok zml zy_X6_keep := ⟨by decide +kernel, Nat.le_of_ble_eq_true rfl, q1376, zo_X6_keep_0, Or.inl ⟨rfl, rfl⟩⟩
theorem zmk_X6_back : zmok zml zy_X6_back := ⟨by decide +kernel, Nat.le_of_ble_eq_true rfl, q1388, zo_X6_back_0, Or.inl ⟨rfl, rfl⟩⟩
theorem zmk_X6_denied : zmok zml zy_X6_denied := ⟨by decide +kernel, Nat.le_of_ble_eq_true rfl, q1392, zo_X6_denied_0, Or.inl ⟨rfl, rfl⟩⟩
theorem zmk_X6_granted : zmok zml zy_X6_granted := ⟨by decide +kernel, Nat.le_of_ble_eq_true rfl, q1396, zo_X6_granted_0, Or.inl ⟨rfl, rfl⟩⟩
theorem zmk_X6_leg : zmok zml zy_X6_leg := ⟨by decide +kernel, Nat.le_of_ble_eq_true rfl, q1400, zo_X6_leg_0, Or.inl ⟨rfl, rfl⟩⟩
theorem zmk_X6_refused : zmok zml zy_X6_refused := ⟨by decide +kernel, Nat.le_of_ble_eq_true rfl, q1404, zo_X6_refused_0, Or.inl ⟨rfl, rfl⟩⟩
theorem zmk_X6_in : zmok zml zy_X6_in := ⟨by decide +kernel, Nat.le_of_ble_eq_true rfl, q1407, zo_X6_in_0, Or.inl ⟨rfl, rfl⟩⟩
theorem zmk_X6_done : zmok zml zy_X6_done := ⟨by decide +kernel, Nat.le_of_ble_eq_true rfl, q1411, zo_X6_done_0, Or.inl ⟨rfl, rfl⟩⟩
theorem zmk_X6_cold : zmok zml zy_X6_cold := ⟨by decide +kernel, Nat.le_of_ble_eq_true rfl, q1415, zo_X6_cold_0, Or.inl ⟨rfl, rfl⟩⟩
theorem zmk_X6_feed : zmok zml zy_X6_feed := ⟨by decide +kernel, Nat.le_of_ble_eq_true rfl, q1419, zo_X6_feed_0, Or.inl ⟨rfl, rfl⟩⟩
theorem zmk_X6_plan : zmok zml zy_X6_plan := ⟨by decide +kernel, Nat.le_of_ble_eq_true rfl, q1423, zo_X6_plan_0, Or.inr ⟨28, 32, 35, 58, 8, zq_8, rfl, rfl, rfl, by decide, q1230, (List.mem_of_getElem? (i := 37) rfl), by decide +kernel⟩⟩
theorem zmk_X6_start : zmok zml zy_X6_start := ⟨by decide +kernel, Nat.le_of_ble_eq_true rfl, q1427, zo_X6_start_0, Or.inl ⟨rfl, rfl⟩⟩
theorem zmk_X6_next : zmok zml zy_X6_next := ⟨by decide +kernel, Nat.le_of_ble_eq_true rfl, q1431, zo_X6_next_0, Or.inl ⟨rfl, rfl⟩⟩
theorem zmk_X6_byteAt : zmok zml zy_X6_byteAt := ⟨by decide +kernel, Nat.le_of_ble_eq_true rfl, q1435, zo_X6_byteAt_0, Or.inl ⟨rfl, rfl⟩⟩
theorem zmk_X6_isLetter : zmok zml zy_X6_isLetter := ⟨by decide +kernel, Nat.le_of_ble_eq_true rfl, q1438, zo_X6_isLetter_0, Or.inl ⟨rfl, rfl⟩⟩
theorem zmk_X6_isDigit : zmok zml zy_X6_isDigit := ⟨by decide +kernel, Nat.le_of_ble_eq_true rfl, q1442, zo_X6_isDigit_0, Or.inl ⟨rfl, rfl⟩⟩
theorem zmk_X6_readPlan : zmok zml zy_X6_readPlan := ⟨by decide +kernel, Nat.le_of_ble_eq_true rfl, q1446, zo_X6_readPlan_0, Or.inl ⟨rfl, rfl⟩⟩
theorem zmk_X6_isWord : zmok zml zy_X6_isWord := ⟨by decide +kernel, Nat.le_of_ble_eq_true rfl, q1451, zo_X6_isWord_0, Or.inl ⟨rfl, rfl⟩⟩
theorem zmk_X6_wordOf : zmok zml zy_X6_wordOf := ⟨by decide +kernel, Nat.le_of_ble_eq_true rfl, q1454, zo_X6_wordOf_0, Or.inl ⟨rfl, rfl⟩⟩
theorem zmk_X6_actHere : zmok zml zy_X6_actHere := ⟨by decide +kernel, Nat.le_of_ble_eq_true rfl, q1486, zo_X6_actHere_0, Or.inl ⟨rfl, rfl⟩⟩
theorem zmk_X6_stop : zmok zml zy_X6_stop := ⟨by decide +kernel, Nat.le_of_ble_eq_true rfl, q1494, zo_X6_stop_0, Or.inl ⟨rfl, rfl⟩⟩
theorem zmk_X6_readTest : zmok zml zy_X6_readTest := ⟨by decide +kernel, Nat.le_of_ble_eq_true rfl, q1498, zo_X6_readTest_0, Or.inl ⟨rfl, rfl⟩⟩
theorem zmk_X6_nameHere : zmok zml zy_X6_nameHere := ⟨by decide +kernel, Nat.le_of_ble_eq_true rfl, q1503, zo_X6_nameHere_0, Or.inl ⟨rfl, rfl⟩⟩
theorem zmk_X6_is : zmok zml zy_X6_is := ⟨by decide +kernel, Nat.le_of_ble_eq_true rfl, q1518, zo_X6_is_0, Or.inl ⟨rfl, rfl⟩⟩
theorem zmk_X6_needNumber : zmok zml zy_X6_needNumber := ⟨by decide +kernel, Nat.le_of_ble_eq_true rfl, q1522, zo_X6_needNumber_0, Or.inl ⟨rfl, rfl⟩⟩
theorem zmk_X6_wrong : zmok zml zy_X6_wrong := ⟨by decide +kernel, Nat.le_of_ble_eq_true rfl, q1526, zo_X6_wrong_0, Or.inl ⟨rfl, rfl⟩⟩
theorem zmk_X6_laws : zmok zml zy_X6_laws := ⟨by decide +kernel, Nat.le_of_ble_eq_true rfl, q1530, zo_X6_laws_0, Or.inr ⟨28, 33, 36, 58, 8, zq_8, rfl, rfl, rfl, by decide, q1230, (List.mem_of_getElem? (i := 37) rfl), by decide +kernel⟩⟩
theorem zmk_X6_readLaws : zmok zml zy_X6_readLaws := ⟨by decide +kernel, Nat.le_of_ble_eq_true rfl, q1534, zo_X6_readLaws_0, Or.inl ⟨rfl, rfl⟩⟩
theorem zmk_X6_needWord : zmok zml zy_X6_needWord := ⟨by decide +kernel, Nat.le_of_ble_eq_true rfl, q1540, zo_X6_needWord_0, Or.inl ⟨rfl, rfl⟩⟩
theorem zmk_X6_fault : zmok zml zy_X6_fault := ⟨by decide +kernel, Nat.le_of_ble_eq_true rfl, q1547, zo_X6_fault_0, Or.inl ⟨rfl, rfl⟩⟩
theorem zmk_X6_where : zmok zml zy_X6_where := ⟨by decide +kernel, Nat.le_of_ble_eq_true rfl, q1551, zo_X6_where_0, Or.inl ⟨rfl, rfl⟩⟩
theorem zmk_X6_law : zmok zml zy_X6_law := ⟨by decide +kernel, Nat.le_of_ble_eq_true rfl, q1555, zo_X6_law_0, Or.inl ⟨rfl, rfl⟩⟩
theorem zmk_X6_planned : zmok zml zy_X6_planned := ⟨by decide +kernel, Nat.le_of_ble_eq_true rfl, q1559, zo_X6_planned_0, Or.inl ⟨rfl, rfl⟩⟩
theorem zmk_X6_team : zmok zml zy_X6_team := ⟨by decide +kernel, Nat.le_of_ble_eq_true rfl, q1563, zo_X6_team_0, Or.inl ⟨rfl, rfl⟩⟩
theorem zmk_X6_isPlan : zmok zml zy_X6_isPlan := ⟨by decide +kernel, Nat.le_of_ble_eq_true rfl, q1567, zo_X6_isPlan_0, Or.inl ⟨rfl, rfl⟩⟩
theorem zmk_X6_follow : zmok zml zy_X6_follow := ⟨by decide +kernel, Nat.le_of_ble_eq_true rfl, q1572, zo_X6_follow_0, Or.inl ⟨rfl, rfl⟩⟩
theorem zmk_X6_isTeam : zmok zml zy_X6_isTeam := ⟨by decide +kernel, Nat.le_of_ble_eq_true rfl, q1576, zo_X6_isTeam_0, Or.inl ⟨rfl, rfl⟩⟩
theorem zmk_X6_gap : zmok zml zy_X6_gap := ⟨by decide +kernel, Nat.le_of_ble_eq_true rfl, q1580, zo_X6_gap_0, Or.inl ⟨rfl, rfl⟩⟩
theorem zmk_X6_each : zmok zml zy_X6_each := ⟨by decide +kernel, Nat.le_of_ble_eq_true rfl, q1584, zo_X6_each_0, Or.inl ⟨rfl, rfl⟩⟩
theorem zmk_X6_run : zmok zml zy_X6_run := ⟨by decide +kernel, Nat.le_of_ble_eq_true rfl, q1588, zo_X6_run_0, Or.inl ⟨rfl, rfl⟩⟩
theorem zmk_X6_isOver : zmok zml zy_X6_isOver := ⟨by decide +kernel, Nat.le_of_ble_eq_true rfl, q1592, zo_X6_isOver_0, Or.inl ⟨rfl, rfl⟩⟩
theorem zmk_X6_leads : zmok zml zy_X6_leads := ⟨by decide +kernel, Nat.le_of_ble_eq_true rfl, q1596, zo_X6_leads_0, Or.inl ⟨rfl, rfl⟩⟩
theorem zmk_X6_holds : zmok zml zy_X6_holds := ⟨by decide +kernel, Nat.le_of_ble_eq_true rfl, q1600, zo_X6_holds_0, Or.inl ⟨rfl, rfl⟩⟩
theorem zmk_X6_valueOf : zmok zml zy_X6_valueOf := ⟨by decide +kernel, Nat.le_of_ble_eq_true rfl, q1604, zo_X6_valueOf_0, Or.inl ⟨rfl, rfl⟩⟩
theorem zmk_X6_goes : zmok zml zy_X6_goes := ⟨by decide +kernel, Nat.le_of_ble_eq_true rfl, q1621, zo_X6_goes_0, Or.inl ⟨rfl, rfl⟩⟩
theorem zmk_X6_way : zmok zml zy_X6_way := ⟨by decide +kernel, Nat.le_of_ble_eq_true rfl, q1635, zo_X6_way_0, Or.inl ⟨rfl, rfl⟩⟩
theorem zmk_X6_about : zmok zml zy_X6_about := ⟨by decide +kernel, Nat.le_of_ble_eq_true rfl, q1639, zo_X6_about_0, Or.inl ⟨rfl, rfl⟩⟩
theorem zmk_X6_dog : zmok zml zy_X6_dog := ⟨by decide +kernel, Nat.le_of_ble_eq_true rfl, q1643, zo_X6_dog_0, Or.inl ⟨rfl, rfl⟩⟩
theorem zmk_X6_time : zmok zml zy_X6_time := ⟨by decide +kernel, Nat.le_of_ble_eq_true rfl, q1647, zo_X6_time_0, Or.inl ⟨rfl, rfl⟩⟩
theorem zmk_X6_did : zmok zml zy_X6_did := ⟨by decide +kernel, Nat.le_of_ble_eq_true rfl, q1651, zo_X6_did_0, Or.inl ⟨rfl, rfl⟩⟩
theorem zmk_X6_result : zmok zml zy_X6_result := ⟨by decide +kernel, Nat.le_of_ble_eq_true rfl, q1655, zo_X6_result_0, Or.inl ⟨rfl, rfl⟩⟩
theorem zmk_X6_resultOf : zmok zml zy_X6_resultOf := ⟨by decide +kernel, Nat.le_of_ble_eq_true rfl, q1659, zo_X6_resultOf_0, Or.inl ⟨rfl, rfl⟩⟩
theorem zmk_X6_lacksOf : zmok zml zy_X6_lacksOf := ⟨by decide +kernel, Nat.le_of_ble_eq_true rfl, q1663, zo_X6_lacksOf_0, Or.inl ⟨rfl, rfl⟩⟩
theorem zmk_X6_less : zmok zml zy_X6_less := ⟨by decide +kernel, Nat.le_of_ble_eq_true rfl, q1667, zo_X6_less_0, Or.inl ⟨rfl, rfl⟩⟩
theorem zmk_X6_lacks : zmok zml zy_X6_lacks := ⟨by decide +kernel, Nat.le_of_ble_eq_true rfl, q1672, zo_X6_lacks_0, Or.inl ⟨rfl, rfl⟩⟩
theorem zmk_X6_place : zmok zml zy_X6_place := ⟨by decide +kernel, Nat.le_of_ble_eq_true rfl, q1676, zo_X6_place_0, Or.inl ⟨rfl, rfl⟩⟩
theorem zmk_X6_isAhead : zmok zml zy_X6_isAhead := ⟨by decide +kernel, Nat.le_of_ble_eq_true rfl, q1680, zo_X6_isAhead_0, Or.inl ⟨rfl, rfl⟩⟩
theorem zmk_X6_came : zmok zml zy_X6_came := ⟨by decide +kernel, Nat.le_of_ble_eq_true rfl, q1684, zo_X6_came_0, Or.inl ⟨rfl, rfl⟩⟩
theorem zmk_X6_spot : zmok zml zy_X6_spot := ⟨by decide +kernel, Nat.le_of_ble_eq_true rfl, q1688, zo_X6_spot_0, Or.inl ⟨rfl, rfl⟩⟩
theorem zmk_X6_trail : zmok zml zy_X6_trail := ⟨by decide +kernel, Nat.le_of_ble_eq_true rfl, q1692, zo_X6_trail_0, Or.inl ⟨rfl, rfl⟩⟩
theorem zmk_X6_signs : zmok zml zy_X6_signs := ⟨by decide +kernel, Nat.le_of_ble_eq_true rfl, q1696, zo_X6_signs_0, Or.inl ⟨rfl, rfl⟩⟩
theorem zmk_X6_replay : zmok zml zy_X6_replay := ⟨by decide +kernel, Nat.le_of_ble_eq_true rfl, q1700, zo_X6_replay_0, Or.inl ⟨rfl, rfl⟩⟩
theorem zmk_X6_count : zmok zml zy_X6_count := ⟨by decide +kernel, Nat.le_of_ble_eq_true rfl, q1704, zo_X6_count_0, Or.inl ⟨rfl, rfl⟩⟩
theorem zmk_X6_trouble : zmok zml zy_X6_trouble := ⟨by decide +kernel, Nat.le_of_ble_eq_true rfl, q1708, zo_X6_trouble_0, Or.inl ⟨rfl, rfl⟩⟩
theorem zmk_X7_init : zmok zml zy_X7_init := ⟨by decide +kernel, Nat.le_of_ble_eq_true rfl, q1131, zo_X7_init_0, Or.inl ⟨rfl, rfl⟩⟩
theorem zmk_X7_become : zmok zml zy_X7_become := ⟨by decide +kernel, Nat.le_of_ble_eq_true rfl, q1380, zo_X7_become_0, Or.inl ⟨rfl, rfl⟩⟩
theorem zmk_X7_begin : zmok zml zy_X7_begin := ⟨by decide +kernel, Nat.le_of_ble_eq_true rfl, q1384, zo_X7_begin_0, Or.inl ⟨rfl, rfl⟩⟩
theorem zmk_X7_weakest : zmok zml zy_X7_weakest := ⟨by decide +kernel, Nat.le_of_ble_eq_true rfl, q1608, zo_X7_weakest_0, Or.inl ⟨rfl, rfl⟩⟩
theorem zmk_X7_mean : zmok zml zy_X7_mean := ⟨by decide +kernel, Nat.le_of_ble_eq_true rfl, q1612, zo_X7_mean_0, Or.inl ⟨rfl, rfl⟩⟩
theorem zmk_X7_of : zmok zml zy_X7_of := ⟨by decide +kernel, Nat.le_of_ble_eq_true rfl, q1616, zo_X7_of_0, Or.inl ⟨rfl, rfl⟩⟩
theorem zmk_X7_gain : zmok zml zy_X7_gain := ⟨by decide +kernel, Nat.le_of_ble_eq_true rfl, q1626, zo_X7_gain_0, Or.inl ⟨rfl, rfl⟩⟩
theorem zmk_X7_inGap : zmok zml zy_X7_inGap := ⟨by decide +kernel, Nat.le_of_ble_eq_true rfl, q1631, zo_X7_inGap_0, Or.inl ⟨rfl, rfl⟩⟩
theorem zmk_X8_init : zmok zml zy_X8_init := ⟨by decide +kernel, Nat.le_of_ble_eq_true rfl, q1241, zo_X8_init_0, Or.inl ⟨rfl, rfl⟩⟩
theorem zmk_X9_init : zmok zml zy_X9_init := ⟨by decide +kernel, Nat.le_of_ble_eq_true rfl, q563, zo_X9_init_0, Or.inl ⟨rfl, rfl⟩⟩
theorem zmk_X9_read : zmok zml zy_X9_read := ⟨by decide +kernel, Nat.le_of_ble_eq_true rfl, q579, zo_X9_read_0, Or.inl ⟨rfl, rfl⟩⟩
theorem zmk_X9_rule : zmok zml zy_X9_rule := ⟨by decide +kernel, Nat.le_of_ble_eq_true rfl, q890, zo_X9_rule_0, Or.inl ⟨rfl, rfl⟩⟩
theorem zmk_X9_tests : zmok zml zy_X9_tests := ⟨by decide +kernel, Nat.le_of_ble_eq_true rfl, q1111, zo_X9_tests_0, Or.inl ⟨rfl, rfl⟩⟩
theorem zmk_X10_init : zmok zml zy_X10_init := ⟨by decide +kernel, Nat.le_of_ble_eq_true rfl, q666, zo_X10_init_0, Or.inl ⟨rfl, rfl⟩⟩
theorem zmk_X10_read : zmok zml zy_X10_read := ⟨by decide +kernel, Nat.le_of_ble_eq_true rfl, q685, zo_X10_read_0, Or.inl ⟨rfl, rfl⟩⟩
theorem zmk_X10_test : zmok zml zy_X10_test := ⟨by decide +kernel, Nat.le_of_ble_eq_true rfl, q695, zo_X10_test_0, Or.inl ⟨rfl, rfl⟩⟩
theorem zmk_X10_isKept : zmok zml zy_X10_isKept := ⟨by decide +kernel, Nat.le_of_ble_eq_true rfl, q713, zo_X10_isKept_0, Or.inl ⟨rfl, rfl⟩⟩
theorem zmk_X10_holds : zmok zml zy_X10_holds := ⟨by decide +kernel, Nat.le_of_ble_eq_true rfl, q894, zo_X10_holds_0, Or.inl ⟨rfl, rfl⟩⟩
theorem zmk_X11_init : zmok zml zy_X11_init := ⟨by decide +kernel, Nat.le_of_ble_eq_true rfl, q730, zo_X11_init_0, Or.inl ⟨rfl, rfl⟩⟩
theorem zmk_X11_holds : zmok zml zy_X11_holds := ⟨by decide +kernel, Nat.le_of_ble_eq_true rfl, q898, zo_X11_holds_0, Or.inl ⟨rfl, rfl⟩⟩
theorem zmk_X12_init : zmok zml zy_X12_init := ⟨by decide +kernel, Nat.le_of_ble_eq_true rfl, q770, zo_X12_init_0, Or.inl ⟨rfl, rfl⟩⟩
theorem zmk_X12_lacks : zmok zml zy_X12_lacks := ⟨by decide +kernel, Nat.le_of_ble_eq_true rfl, q1012, zo_X12_lacks_0, Or.inl ⟨rfl, rfl⟩⟩
theorem zmk_X12_isRest : zmok zml zy_X12_isRest := ⟨by decide +kernel, Nat.le_of_ble_eq_true rfl, q1022, zo_X12_isRest_0, Or.inl ⟨rfl, rfl⟩⟩
theorem zmk_X12_number : zmok zml zy_X12_number := ⟨by decide +kernel, Nat.le_of_ble_eq_true rfl, q1030, zo_X12_number_0, Or.inl ⟨rfl, rfl⟩⟩
theorem zmk_X13_init : zmok zml zy_X13_init := ⟨by decide +kernel, Nat.le_of_ble_eq_true rfl, q767, zo_X13_init_0, Or.inl ⟨rfl, rfl⟩⟩
theorem zmk_X13_init_2 : zmok zml zy_X13_init_2 := ⟨by decide +kernel, Nat.le_of_ble_eq_true rfl, q797, zo_X13_init_2_0, Or.inl ⟨rfl, rfl⟩⟩
theorem zmk_X13_lacks : zmok zml zy_X13_lacks := ⟨by decide +kernel, Nat.le_of_ble_eq_true rfl, q1007, zo_X13_lacks_0, Or.inl ⟨rfl, rfl⟩⟩
theorem zmk_X13_isRest : zmok zml zy_X13_isRest := ⟨by decide +kernel, Nat.le_of_ble_eq_true rfl, q1020, zo_X13_isRest_0, Or.inl ⟨rfl, rfl⟩⟩
theorem zmk_X13_number : zmok zml zy_X13_number := ⟨by decide +kernel, Nat.le_of_ble_eq_true rfl, q1040, zo_X13_number_0, Or.inl ⟨rfl, rfl⟩⟩
theorem zmk_X14_init : zmok zml zy_X14_init := ⟨by decide +kernel, Nat.le_of_ble_eq_true rfl, q764, zo_X14_init_0, Or.inl ⟨rfl, rfl⟩⟩
theorem zmk_X14_number : zmok zml zy_X14_number := ⟨by decide +kernel, Nat.le_of_ble_eq_true rfl, q1037, zo_X14_number_0, Or.inl ⟨rfl, rfl⟩⟩
theorem zmk_X15_init : zmok zml zy_X15_init := ⟨by decide +kernel, Nat.le_of_ble_eq_true rfl, q808, zo_X15_init_0, Or.inl ⟨rfl, rfl⟩⟩
theorem zmk_X15_lacks : zmok zml zy_X15_lacks := ⟨by decide +kernel, Nat.le_of_ble_eq_true rfl, q1002, zo_X15_lacks_0, Or.inl ⟨rfl, rfl⟩⟩
theorem zmk_X15_number : zmok zml zy_X15_number := ⟨by decide +kernel, Nat.le_of_ble_eq_true rfl, q1033, zo_X15_number_0, Or.inl ⟨rfl, rfl⟩⟩
theorem zmk_X16_init : zmok zml zy_X16_init := ⟨by decide +kernel, Nat.le_of_ble_eq_true rfl, q820, zo_X16_init_0, Or.inl ⟨rfl, rfl⟩⟩
theorem zmk_X16_number : zmok zml zy_X16_number := ⟨by decide +kernel, Nat.le_of_ble_eq_true rfl, q1028, zo_X16_number_0, Or.inl ⟨rfl, rfl⟩⟩
theorem zmk_all : ∀ r ∈ zml, zmok zml r := za_c9 zmk_J0_init (za_c9 zmk_J0_init (za_c9 zmk_J0_init_2 (za_c9 zmk_J1_init (za_c9 zmk_J2_init (za_c9 zmk_J3_init (za_c9 zmk_J3_rangeCheck (za_c9 zmk_J3_checkBoundsOffCount (za_c9 zmk_J3_init_2 (za_c9 zmk_J3_equals (za_c9 zmk_J3_hashCode (za_c9 zmk_J3_isLatin1 (za_c9 zmk_J3_length (za_c9 zmk_J3_coder (za_c9 zmk_J3_charAt (za_c9 zmk_J3_checkIndex (za_c9 zmk_J4_checkFromIndexSize (za_c9 zmk_J4_checkIndex (za_c9 zmk_J5_compress (za_c9 zmk_J5_compress_2 (za_c9 zmk_J5_coderFromArrayLen (za_c9 zmk_J6_equals (za_c9 zmk_J6_hashCode (za_c9 zmk_J6_charAt (za_c9 zmk_J7_vectorizedHashCode (za_c9 zmk_J7_signedHashCode (za_c9 zmk_J8_max (za_c9 zmk_J8_min (za_c9 zmk_X0_init (za_c9 zmk_X0_leg (za_c9 zmk_X0_begins (za_c9 zmk_X0_must (za_c9 zmk_X0_in (za_c9 zmk_X0_refuses (za_c9 zmk_X0_cold (za_c9 zmk_X0_feed (za_c9 zmk_X0_word (za_c9 zmk_X0_plan (za_c9 zmk_X0_takes (za_c9 zmk_X0_actOf (za_c9 zmk_X0_nameOf (za_c9 zmk_X0_laws (za_c9 zmk_X0_lawOf (za_c9 zmk_X0_fault (za_c9 zmk_X0_where (za_c9 zmk_X0_team (za_c9 zmk_X0_follow (za_c9 zmk_X0_isTeam (za_c9 zmk_X0_gap (za_c9 zmk_X0_each (za_c9 zmk_X0_run (za_c9 zmk_X0_about (za_c9 zmk_X0_dog (za_c9 zmk_X0_time (za_c9 zmk_X0_did (za_c9 zmk_X0_result (za_c9 zmk_X0_home (za_c9 zmk_X0_resultOf (za_c9 zmk_X0_lacks (za_c9 zmk_X0_place (za_c9 zmk_X0_isAhead (za_c9 zmk_X0_came (za_c9 zmk_X0_spot (za_c9 zmk_X0_signs (za_c9 zmk_X0_replay (za_c9 zmk_X0_keep (za_c9 zmk_X0_back (za_c9 zmk_X0_law (za_c9 zmk_X0_planned (za_c9 zmk_X0_count (za_c9 zmk_X0_trouble (za_c9 zmk_X1_init (za_c9 zmk_X1_begin (za_c9 zmk_X1_next (za_c9 zmk_X1_see (za_c9 zmk_X1_isSmall (za_c9 zmk_X1_isDigit (za_c9 zmk_X1_isWord (za_c9 zmk_X1_fail (za_c9 zmk_X1_takes (za_c9 zmk_X1_takes_2 (za_c9 zmk_X1_number (za_c9 zmk_X1_mustEnd (za_c9 zmk_X1_must (za_c9 zmk_X2_init (za_c9 zmk_X2_by (za_c9 zmk_X2_at (za_c9 zmk_X3_init (za_c9 zmk_X3_goesOn (za_c9 zmk_X3_trail (za_c9 zmk_X3_become (za_c9 zmk_X4_init (za_c9 zmk_X4_enter (za_c9 zmk_X4_begin (za_c9 zmk_X4_step (za_c9 zmk_X4_told (za_c9 zmk_X4_weakest (za_c9 zmk_X4_mean (za_c9 zmk_X4_pulling (za_c9 zmk_X4_inState (za_c9 zmk_X4_load (za_c9 zmk_X4_go (za_c9 zmk_X4_comes (za_c9 zmk_X4_rests (za_c9 zmk_X4_gain (za_c9 zmk_X4_sign (za_c9 zmk_X4_isQuiet (za_c9 zmk_X4_way (za_c9 zmk_X4_become (za_c9 zmk_X5_init (za_c9 zmk_X5_begin (za_c9 zmk_X5_leave (za_c9 zmk_X5_gain (za_c9 zmk_X5_become (za_c9 zmk_X6_init (za_c9 zmk_X6_keep (za_c9 zmk_X6_back (za_c9 zmk_X6_denied (za_c9 zmk_X6_granted (za_c9 zmk_X6_leg (za_c9 zmk_X6_refused (za_c9 zmk_X6_in (za_c9 zmk_X6_done (za_c9 zmk_X6_cold (za_c9 zmk_X6_feed (za_c9 zmk_X6_plan (za_c9 zmk_X6_start (za_c9 zmk_X6_next (za_c9 zmk_X6_byteAt (za_c9 zmk_X6_isLetter (za_c9 zmk_X6_isDigit (za_c9 zmk_X6_readPlan (za_c9 zmk_X6_isWord (za_c9 zmk_X6_wordOf (za_c9 zmk_X6_actHere (za_c9 zmk_X6_stop (za_c9 zmk_X6_readTest (za_c9 zmk_X6_nameHere (za_c9 zmk_X6_is (za_c9 zmk_X6_needNumber (za_c9 zmk_X6_wrong (za_c9 zmk_X6_laws (za_c9 zmk_X6_readLaws (za_c9 zmk_X6_needWord (za_c9 zmk_X6_fault (za_c9 zmk_X6_where (za_c9 zmk_X6_law (za_c9 zmk_X6_planned (za_c9 zmk_X6_team (za_c9 zmk_X6_isPlan (za_c9 zmk_X6_follow (za_c9 zmk_X6_isTeam (za_c9 zmk_X6_gap (za_c9 zmk_X6_each (za_c9 zmk_X6_run (za_c9 zmk_X6_isOver (za_c9 zmk_X6_leads (za_c9 zmk_X6_holds (za_c9 zmk_X6_valueOf (za_c9 zmk_X6_goes (za_c9 zmk_X6_way (za_c9 zmk_X6_about (za_c9 zmk_X6_dog (za_c9 zmk_X6_time (za_c9 zmk_X6_did (za_c9 zmk_X6_result (za_c9 zmk_X6_resultOf (za_c9 zmk_X6_lacksOf (za_c9 zmk_X6_less (za_c9 zmk_X6_lacks (za_c9 zmk_X6_place (za_c9 zmk_X6_isAhead (za_c9 zmk_X6_came (za_c9 zmk_X6_spot (za_c9 zmk_X6_trail (za_c9 zmk_X6_signs (za_c9 zmk_X6_replay (za_c9 zmk_X6_count (za_c9 zmk_X6_trouble (za_c9 zmk_X7_init (za_c9 zmk_X7_become (za_c9 zmk_X7_begin (za_c9 zmk_X7_weakest (za_c9 zmk_X7_mean (za_c9 zmk_X7_of (za_c9 zmk_X7_gain (za_c9 zmk_X7_inGap (za_c9 zmk_X8_init (za_c9 zmk_X9_init (za_c9 zmk_X9_read (za_c9 zmk_X9_rule (za_c9 zmk_X9_tests (za_c9 zmk_X10_init (za_c9 zmk_X10_read (za_c9 zmk_X10_test (za_c9 zmk_X10_isKept (za_c9 zmk_X10_holds (za_c9 zmk_X11_init (za_c9 zmk_X11_holds (za_c9 zmk_X12_init (za_c9 zmk_X12_lacks (za_c9 zmk_X12_isRest (za_c9 zmk_X12_number (za_c9 zmk_X13_init (za_c9 zmk_X13_init_2 (za_c9 zmk_X13_lacks (za_c9 zmk_X13_isRest (za_c9 zmk_X13_number (za_c9 zmk_X14_init (za_c9 zmk_X14_number (za_c9 zmk_X15_init (za_c9 zmk_X15_lacks (za_c9 zmk_X15_number (za_c9 zmk_X16_init (za_c9 zmk_X16_number (za_n9)))))))))))))))))))))))))))))))))))))))))))))))))))))))))))))))))))))))))))))))))))))))))))))))))))))))))))))))))))))))))))))))))))))))))))))))))))))))))))))))))))))))))))))))))))))))))))))))))))))))))))))))))))))))
theorem zml_ok : ∀ (y : Nat) (r : zY), zml[y]? = some r → zmok zml r := fun y r h => zmk_all r (List.mem_of_getElem? h)
/-- the entries: the law stands behind all others -/
def zPm : zP := fun y => match zml[y]? with
  | some r => (yC r, yH r, yL r)
  | none => (zc_L_law_0, [], 4)
theorem zPm_ok : ∀ (y : Nat) (r : zY), zml[y]? = some r → zPm y = (yC r, yH r, yL r) := fun y r h => by unfold zPm; rw [h]
