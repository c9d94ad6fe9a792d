/-! ===== each row of the program checked against the class files ===== -/
theorem k_t0_0 : ((T_0.drop 0).take 60).all (fun r => k_ok 0 r.1 r.2) = true := by decide +kernel
theorem k_t0 : T_0.all (fun r => k_ok 0 r.1 r.2) = true := k_top (k_cut (a := 0) (n := 60) k_t0_0 (k_nil (by decide +kernel)))
theorem k_t1_0 : ((T_1.drop 0).take 60).all (fun r => k_ok 1 r.1 r.2) = true := by decide +kernel
theorem k_t1 : T_1.all (fun r => k_ok 1 r.1 r.2) = true := k_top (k_cut (a := 0) (n := 60) k_t1_0 (k_nil (by decide +kernel)))
theorem k_t2_0 : ((T_2.drop 0).take 60).all (fun r => k_ok 2 r.1 r.2) = true := by decide +kernel
theorem k_t2 : T_2.all (fun r => k_ok 2 r.1 r.2) = true := k_top (k_cut (a := 0) (n := 60) k_t2_0 (k_nil (by decide +kernel)))
theorem k_t3_0 : ((T_3.drop 0).take 60).all (fun r => k_ok 3 r.1 r.2) = true := by decide +kernel
theorem k_t3 : T_3.all (fun r => k_ok 3 r.1 r.2) = true := k_top (k_cut (a := 0) (n := 60) k_t3_0 (k_nil (by decide +kernel)))
theorem k_t4_0 : ((T_4.drop 0).take 60).all (fun r => k_ok 4 r.1 r.2) = true := by decide +kernel
theorem k_t4 : T_4.all (fun r => k_ok 4 r.1 r.2) = true := k_top (k_cut (a := 0) (n := 60) k_t4_0 (k_nil (by decide +kernel)))
theorem k_t5_0 : ((T_5.drop 0).take 60).all (fun r => k_ok 5 r.1 r.2) = true := by decide +kernel
theorem k_t5 : T_5.all (fun r => k_ok 5 r.1 r.2) = true := k_top (k_cut (a := 0) (n := 60) k_t5_0 (k_nil (by decide +kernel)))
theorem k_t6_0 : ((T_6.drop 0).take 60).all (fun r => k_ok 6 r.1 r.2) = true := by decide +kernel
theorem k_t6 : T_6.all (fun r => k_ok 6 r.1 r.2) = true := k_top (k_cut (a := 0) (n := 60) k_t6_0 (k_nil (by decide +kernel)))
theorem k_t7_0 : ((T_7.drop 0).take 60).all (fun r => k_ok 7 r.1 r.2) = true := by decide +kernel
theorem k_t7 : T_7.all (fun r => k_ok 7 r.1 r.2) = true := k_top (k_cut (a := 0) (n := 60) k_t7_0 (k_nil (by decide +kernel)))
theorem k_t8_0 : ((T_8.drop 0).take 60).all (fun r => k_ok 8 r.1 r.2) = true := by decide +kernel
theorem k_t8 : T_8.all (fun r => k_ok 8 r.1 r.2) = true := k_top (k_cut (a := 0) (n := 60) k_t8_0 (k_nil (by decide +kernel)))
theorem k_t9_0 : ((T_9.drop 0).take 60).all (fun r => k_ok 9 r.1 r.2) = true := by decide +kernel
theorem k_t9 : T_9.all (fun r => k_ok 9 r.1 r.2) = true := k_top (k_cut (a := 0) (n := 60) k_t9_0 (k_nil (by decide +kernel)))
theorem k_t10_0 : ((T_10.drop 0).take 60).all (fun r => k_ok 10 r.1 r.2) = true := by decide +kernel
theorem k_t10 : T_10.all (fun r => k_ok 10 r.1 r.2) = true := k_top (k_cut (a := 0) (n := 60) k_t10_0 (k_nil (by decide +kernel)))
theorem k_t11_0 : ((T_11.drop 0).take 60).all (fun r => k_ok 11 r.1 r.2) = true := by decide +kernel
theorem k_t11 : T_11.all (fun r => k_ok 11 r.1 r.2) = true := k_top (k_cut (a := 0) (n := 60) k_t11_0 (k_nil (by decide +kernel)))
theorem k_t12_0 : ((T_12.drop 0).take 60).all (fun r => k_ok 12 r.1 r.2) = true := by decide +kernel
theorem k_t12 : T_12.all (fun r => k_ok 12 r.1 r.2) = true := k_top (k_cut (a := 0) (n := 60) k_t12_0 (k_nil (by decide +kernel)))
theorem k_t13_0 : ((T_13.drop 0).take 60).all (fun r => k_ok 13 r.1 r.2) = true := by decide +kernel
theorem k_t13 : T_13.all (fun r => k_ok 13 r.1 r.2) = true := k_top (k_cut (a := 0) (n := 60) k_t13_0 (k_nil (by decide +kernel)))
theorem k_t14_0 : ((T_14.drop 0).take 60).all (fun r => k_ok 14 r.1 r.2) = true := by decide +kernel
theorem k_t14 : T_14.all (fun r => k_ok 14 r.1 r.2) = true := k_top (k_cut (a := 0) (n := 60) k_t14_0 (k_nil (by decide +kernel)))
theorem k_t15_0 : ((T_15.drop 0).take 60).all (fun r => k_ok 15 r.1 r.2) = true := by decide +kernel
theorem k_t15 : T_15.all (fun r => k_ok 15 r.1 r.2) = true := k_top (k_cut (a := 0) (n := 60) k_t15_0 (k_nil (by decide +kernel)))
theorem k_t16_0 : ((T_16.drop 0).take 60).all (fun r => k_ok 16 r.1 r.2) = true := by decide +kernel
theorem k_t16 : T_16.all (fun r => k_ok 16 r.1 r.2) = true := k_top (k_cut (a := 0) (n := 60) k_t16_0 (k_nil (by decide +kernel)))
theorem k_t17_0 : ((T_17.drop 0).take 60).all (fun r => k_ok 17 r.1 r.2) = true := by decide +kernel
theorem k_t17 : T_17.all (fun r => k_ok 17 r.1 r.2) = true := k_top (k_cut (a := 0) (n := 60) k_t17_0 (k_nil (by decide +kernel)))
theorem k_t18_0 : ((T_18.drop 0).take 60).all (fun r => k_ok 18 r.1 r.2) = true := by decide +kernel
theorem k_t18 : T_18.all (fun r => k_ok 18 r.1 r.2) = true := k_top (k_cut (a := 0) (n := 60) k_t18_0 (k_nil (by decide +kernel)))
theorem k_t19_0 : ((T_19.drop 0).take 60).all (fun r => k_ok 19 r.1 r.2) = true := by decide +kernel
theorem k_t19_1 : ((T_19.drop 60).take 60).all (fun r => k_ok 19 r.1 r.2) = true := by decide +kernel
theorem k_t19 : T_19.all (fun r => k_ok 19 r.1 r.2) = true := k_top (k_cut (a := 0) (n := 60) k_t19_0 (k_cut (a := 60) (n := 60) k_t19_1 (k_nil (by decide +kernel))))
theorem k_t20_0 : ((T_20.drop 0).take 60).all (fun r => k_ok 20 r.1 r.2) = true := by decide +kernel
theorem k_t20 : T_20.all (fun r => k_ok 20 r.1 r.2) = true := k_top (k_cut (a := 0) (n := 60) k_t20_0 (k_nil (by decide +kernel)))
theorem k_t21_0 : ((T_21.drop 0).take 60).all (fun r => k_ok 21 r.1 r.2) = true := by decide +kernel
theorem k_t21 : T_21.all (fun r => k_ok 21 r.1 r.2) = true := k_top (k_cut (a := 0) (n := 60) k_t21_0 (k_nil (by decide +kernel)))
theorem k_t22_0 : ((T_22.drop 0).take 60).all (fun r => k_ok 22 r.1 r.2) = true := by decide +kernel
theorem k_t22 : T_22.all (fun r => k_ok 22 r.1 r.2) = true := k_top (k_cut (a := 0) (n := 60) k_t22_0 (k_nil (by decide +kernel)))
theorem k_t23_0 : ((T_23.drop 0).take 60).all (fun r => k_ok 23 r.1 r.2) = true := by decide +kernel
theorem k_t23 : T_23.all (fun r => k_ok 23 r.1 r.2) = true := k_top (k_cut (a := 0) (n := 60) k_t23_0 (k_nil (by decide +kernel)))
theorem k_t24_0 : ((T_24.drop 0).take 60).all (fun r => k_ok 24 r.1 r.2) = true := by decide +kernel
theorem k_t24 : T_24.all (fun r => k_ok 24 r.1 r.2) = true := k_top (k_cut (a := 0) (n := 60) k_t24_0 (k_nil (by decide +kernel)))
theorem k_t25_0 : ((T_25.drop 0).take 60).all (fun r => k_ok 25 r.1 r.2) = true := by decide +kernel
theorem k_t25 : T_25.all (fun r => k_ok 25 r.1 r.2) = true := k_top (k_cut (a := 0) (n := 60) k_t25_0 (k_nil (by decide +kernel)))
theorem k_t26_0 : ((T_26.drop 0).take 60).all (fun r => k_ok 26 r.1 r.2) = true := by decide +kernel
theorem k_t26 : T_26.all (fun r => k_ok 26 r.1 r.2) = true := k_top (k_cut (a := 0) (n := 60) k_t26_0 (k_nil (by decide +kernel)))
theorem k_t27_0 : ((T_27.drop 0).take 60).all (fun r => k_ok 27 r.1 r.2) = true := by decide +kernel
theorem k_t27 : T_27.all (fun r => k_ok 27 r.1 r.2) = true := k_top (k_cut (a := 0) (n := 60) k_t27_0 (k_nil (by decide +kernel)))
theorem k_t28_0 : ((T_28.drop 0).take 60).all (fun r => k_ok 28 r.1 r.2) = true := by decide +kernel
theorem k_t28 : T_28.all (fun r => k_ok 28 r.1 r.2) = true := k_top (k_cut (a := 0) (n := 60) k_t28_0 (k_nil (by decide +kernel)))
theorem k_t29_0 : ((T_29.drop 0).take 60).all (fun r => k_ok 29 r.1 r.2) = true := by decide +kernel
theorem k_t29_1 : ((T_29.drop 60).take 60).all (fun r => k_ok 29 r.1 r.2) = true := by decide +kernel
theorem k_t29 : T_29.all (fun r => k_ok 29 r.1 r.2) = true := k_top (k_cut (a := 0) (n := 60) k_t29_0 (k_cut (a := 60) (n := 60) k_t29_1 (k_nil (by decide +kernel))))
theorem k_t30_0 : ((T_30.drop 0).take 60).all (fun r => k_ok 30 r.1 r.2) = true := by decide +kernel
theorem k_t30 : T_30.all (fun r => k_ok 30 r.1 r.2) = true := k_top (k_cut (a := 0) (n := 60) k_t30_0 (k_nil (by decide +kernel)))
theorem k_t31_0 : ((T_31.drop 0).take 60).all (fun r => k_ok 31 r.1 r.2) = true := by decide +kernel
theorem k_t31 : T_31.all (fun r => k_ok 31 r.1 r.2) = true := k_top (k_cut (a := 0) (n := 60) k_t31_0 (k_nil (by decide +kernel)))
theorem k_t32_0 : ((T_32.drop 0).take 60).all (fun r => k_ok 32 r.1 r.2) = true := by decide +kernel
theorem k_t32 : T_32.all (fun r => k_ok 32 r.1 r.2) = true := k_top (k_cut (a := 0) (n := 60) k_t32_0 (k_nil (by decide +kernel)))
theorem k_t33_0 : ((T_33.drop 0).take 60).all (fun r => k_ok 33 r.1 r.2) = true := by decide +kernel
theorem k_t33 : T_33.all (fun r => k_ok 33 r.1 r.2) = true := k_top (k_cut (a := 0) (n := 60) k_t33_0 (k_nil (by decide +kernel)))
theorem k_t34_0 : ((T_34.drop 0).take 60).all (fun r => k_ok 34 r.1 r.2) = true := by decide +kernel
theorem k_t34 : T_34.all (fun r => k_ok 34 r.1 r.2) = true := k_top (k_cut (a := 0) (n := 60) k_t34_0 (k_nil (by decide +kernel)))
theorem k_t35_0 : ((T_35.drop 0).take 60).all (fun r => k_ok 35 r.1 r.2) = true := by decide +kernel
theorem k_t35 : T_35.all (fun r => k_ok 35 r.1 r.2) = true := k_top (k_cut (a := 0) (n := 60) k_t35_0 (k_nil (by decide +kernel)))
theorem k_t36_0 : ((T_36.drop 0).take 60).all (fun r => k_ok 36 r.1 r.2) = true := by decide +kernel
theorem k_t36 : T_36.all (fun r => k_ok 36 r.1 r.2) = true := k_top (k_cut (a := 0) (n := 60) k_t36_0 (k_nil (by decide +kernel)))
theorem k_t37_0 : ((T_37.drop 0).take 60).all (fun r => k_ok 37 r.1 r.2) = true := by decide +kernel
theorem k_t37 : T_37.all (fun r => k_ok 37 r.1 r.2) = true := k_top (k_cut (a := 0) (n := 60) k_t37_0 (k_nil (by decide +kernel)))
theorem k_t38_0 : ((T_38.drop 0).take 60).all (fun r => k_ok 38 r.1 r.2) = true := by decide +kernel
theorem k_t38 : T_38.all (fun r => k_ok 38 r.1 r.2) = true := k_top (k_cut (a := 0) (n := 60) k_t38_0 (k_nil (by decide +kernel)))
theorem k_t39_0 : ((T_39.drop 0).take 60).all (fun r => k_ok 39 r.1 r.2) = true := by decide +kernel
theorem k_t39_1 : ((T_39.drop 60).take 60).all (fun r => k_ok 39 r.1 r.2) = true := by decide +kernel
theorem k_t39 : T_39.all (fun r => k_ok 39 r.1 r.2) = true := k_top (k_cut (a := 0) (n := 60) k_t39_0 (k_cut (a := 60) (n := 60) k_t39_1 (k_nil (by decide +kernel))))
theorem k_t40_0 : ((T_40.drop 0).take 60).all (fun r => k_ok 40 r.1 r.2) = true := by decide +kernel
theorem k_t40 : T_40.all (fun r => k_ok 40 r.1 r.2) = true := k_top (k_cut (a := 0) (n := 60) k_t40_0 (k_nil (by decide +kernel)))
theorem k_t41_0 : ((T_41.drop 0).take 60).all (fun r => k_ok 41 r.1 r.2) = true := by decide +kernel
theorem k_t41 : T_41.all (fun r => k_ok 41 r.1 r.2) = true := k_top (k_cut (a := 0) (n := 60) k_t41_0 (k_nil (by decide +kernel)))
theorem k_t42_0 : ((T_42.drop 0).take 60).all (fun r => k_ok 42 r.1 r.2) = true := by decide +kernel
theorem k_t42 : T_42.all (fun r => k_ok 42 r.1 r.2) = true := k_top (k_cut (a := 0) (n := 60) k_t42_0 (k_nil (by decide +kernel)))
theorem k_t43_0 : ((T_43.drop 0).take 60).all (fun r => k_ok 43 r.1 r.2) = true := by decide +kernel
theorem k_t43 : T_43.all (fun r => k_ok 43 r.1 r.2) = true := k_top (k_cut (a := 0) (n := 60) k_t43_0 (k_nil (by decide +kernel)))
theorem k_t44_0 : ((T_44.drop 0).take 60).all (fun r => k_ok 44 r.1 r.2) = true := by decide +kernel
theorem k_t44 : T_44.all (fun r => k_ok 44 r.1 r.2) = true := k_top (k_cut (a := 0) (n := 60) k_t44_0 (k_nil (by decide +kernel)))
theorem k_t45_0 : ((T_45.drop 0).take 60).all (fun r => k_ok 45 r.1 r.2) = true := by decide +kernel
theorem k_t45 : T_45.all (fun r => k_ok 45 r.1 r.2) = true := k_top (k_cut (a := 0) (n := 60) k_t45_0 (k_nil (by decide +kernel)))
theorem k_t46_0 : ((T_46.drop 0).take 60).all (fun r => k_ok 46 r.1 r.2) = true := by decide +kernel
theorem k_t46 : T_46.all (fun r => k_ok 46 r.1 r.2) = true := k_top (k_cut (a := 0) (n := 60) k_t46_0 (k_nil (by decide +kernel)))
theorem k_t47_0 : ((T_47.drop 0).take 60).all (fun r => k_ok 47 r.1 r.2) = true := by decide +kernel
theorem k_t47_1 : ((T_47.drop 60).take 60).all (fun r => k_ok 47 r.1 r.2) = true := by decide +kernel
theorem k_t47 : T_47.all (fun r => k_ok 47 r.1 r.2) = true := k_top (k_cut (a := 0) (n := 60) k_t47_0 (k_cut (a := 60) (n := 60) k_t47_1 (k_nil (by decide +kernel))))
theorem k_t48_0 : ((T_48.drop 0).take 60).all (fun r => k_ok 48 r.1 r.2) = true := by decide +kernel
theorem k_t48 : T_48.all (fun r => k_ok 48 r.1 r.2) = true := k_top (k_cut (a := 0) (n := 60) k_t48_0 (k_nil (by decide +kernel)))
theorem k_t49_0 : ((T_49.drop 0).take 60).all (fun r => k_ok 49 r.1 r.2) = true := by decide +kernel
theorem k_t49 : T_49.all (fun r => k_ok 49 r.1 r.2) = true := k_top (k_cut (a := 0) (n := 60) k_t49_0 (k_nil (by decide +kernel)))
theorem k_t50_0 : ((T_50.drop 0).take 60).all (fun r => k_ok 50 r.1 r.2) = true := by decide +kernel
theorem k_t50_1 : ((T_50.drop 60).take 60).all (fun r => k_ok 50 r.1 r.2) = true := by decide +kernel
theorem k_t50 : T_50.all (fun r => k_ok 50 r.1 r.2) = true := k_top (k_cut (a := 0) (n := 60) k_t50_0 (k_cut (a := 60) (n := 60) k_t50_1 (k_nil (by decide +kernel))))
theorem k_t51_0 : ((T_51.drop 0).take 60).all (fun r => k_ok 51 r.1 r.2) = true := by decide +kernel
theorem k_t51 : T_51.all (fun r => k_ok 51 r.1 r.2) = true := k_top (k_cut (a := 0) (n := 60) k_t51_0 (k_nil (by decide +kernel)))
theorem k_t52_0 : ((T_52.drop 0).take 60).all (fun r => k_ok 52 r.1 r.2) = true := by decide +kernel
theorem k_t52 : T_52.all (fun r => k_ok 52 r.1 r.2) = true := k_top (k_cut (a := 0) (n := 60) k_t52_0 (k_nil (by decide +kernel)))
theorem k_t53_0 : ((T_53.drop 0).take 60).all (fun r => k_ok 53 r.1 r.2) = true := by decide +kernel
theorem k_t53 : T_53.all (fun r => k_ok 53 r.1 r.2) = true := k_top (k_cut (a := 0) (n := 60) k_t53_0 (k_nil (by decide +kernel)))
theorem k_t54_0 : ((T_54.drop 0).take 60).all (fun r => k_ok 54 r.1 r.2) = true := by decide +kernel
theorem k_t54 : T_54.all (fun r => k_ok 54 r.1 r.2) = true := k_top (k_cut (a := 0) (n := 60) k_t54_0 (k_nil (by decide +kernel)))
theorem k_t55_0 : ((T_55.drop 0).take 60).all (fun r => k_ok 55 r.1 r.2) = true := by decide +kernel
theorem k_t55 : T_55.all (fun r => k_ok 55 r.1 r.2) = true := k_top (k_cut (a := 0) (n := 60) k_t55_0 (k_nil (by decide +kernel)))
theorem k_t56_0 : ((T_56.drop 0).take 60).all (fun r => k_ok 56 r.1 r.2) = true := by decide +kernel
theorem k_t56 : T_56.all (fun r => k_ok 56 r.1 r.2) = true := k_top (k_cut (a := 0) (n := 60) k_t56_0 (k_nil (by decide +kernel)))
theorem k_t57_0 : ((T_57.drop 0).take 60).all (fun r => k_ok 57 r.1 r.2) = true := by decide +kernel
theorem k_t57 : T_57.all (fun r => k_ok 57 r.1 r.2) = true := k_top (k_cut (a := 0) (n := 60) k_t57_0 (k_nil (by decide +kernel)))
theorem k_t58_0 : ((T_58.drop 0).take 60).all (fun r => k_ok 58 r.1 r.2) = true := by decide +kernel
theorem k_t58 : T_58.all (fun r => k_ok 58 r.1 r.2) = true := k_top (k_cut (a := 0) (n := 60) k_t58_0 (k_nil (by decide +kernel)))
theorem k_t59_0 : ((T_59.drop 0).take 60).all (fun r => k_ok 59 r.1 r.2) = true := by decide +kernel
theorem k_t59 : T_59.all (fun r => k_ok 59 r.1 r.2) = true := k_top (k_cut (a := 0) (n := 60) k_t59_0 (k_nil (by decide +kernel)))
theorem k_t60_0 : ((T_60.drop 0).take 60).all (fun r => k_ok 60 r.1 r.2) = true := by decide +kernel
theorem k_t60 : T_60.all (fun r => k_ok 60 r.1 r.2) = true := k_top (k_cut (a := 0) (n := 60) k_t60_0 (k_nil (by decide +kernel)))
theorem k_t61_0 : ((T_61.drop 0).take 60).all (fun r => k_ok 61 r.1 r.2) = true := by decide +kernel
theorem k_t61 : T_61.all (fun r => k_ok 61 r.1 r.2) = true := k_top (k_cut (a := 0) (n := 60) k_t61_0 (k_nil (by decide +kernel)))
theorem k_t62_0 : ((T_62.drop 0).take 60).all (fun r => k_ok 62 r.1 r.2) = true := by decide +kernel
theorem k_t62_1 : ((T_62.drop 60).take 60).all (fun r => k_ok 62 r.1 r.2) = true := by decide +kernel
theorem k_t62 : T_62.all (fun r => k_ok 62 r.1 r.2) = true := k_top (k_cut (a := 0) (n := 60) k_t62_0 (k_cut (a := 60) (n := 60) k_t62_1 (k_nil (by decide +kernel))))
theorem k_t63_0 : ((T_63.drop 0).take 60).all (fun r => k_ok 63 r.1 r.2) = true := by decide +kernel
theorem k_t63 : T_63.all (fun r => k_ok 63 r.1 r.2) = true := k_top (k_cut (a := 0) (n := 60) k_t63_0 (k_nil (by decide +kernel)))
theorem k_t64_0 : ((T_64.drop 0).take 60).all (fun r => k_ok 64 r.1 r.2) = true := by decide +kernel
theorem k_t64 : T_64.all (fun r => k_ok 64 r.1 r.2) = true := k_top (k_cut (a := 0) (n := 60) k_t64_0 (k_nil (by decide +kernel)))
theorem k_t65_0 : ((T_65.drop 0).take 60).all (fun r => k_ok 65 r.1 r.2) = true := by decide +kernel
theorem k_t65_1 : ((T_65.drop 60).take 60).all (fun r => k_ok 65 r.1 r.2) = true := by decide +kernel
theorem k_t65 : T_65.all (fun r => k_ok 65 r.1 r.2) = true := k_top (k_cut (a := 0) (n := 60) k_t65_0 (k_cut (a := 60) (n := 60) k_t65_1 (k_nil (by decide +kernel))))
theorem k_t66_0 : ((T_66.drop 0).take 60).all (fun r => k_ok 66 r.1 r.2) = true := by decide +kernel
theorem k_t66 : T_66.all (fun r => k_ok 66 r.1 r.2) = true := k_top (k_cut (a := 0) (n := 60) k_t66_0 (k_nil (by decide +kernel)))
theorem k_t67_0 : ((T_67.drop 0).take 60).all (fun r => k_ok 67 r.1 r.2) = true := by decide +kernel
theorem k_t67 : T_67.all (fun r => k_ok 67 r.1 r.2) = true := k_top (k_cut (a := 0) (n := 60) k_t67_0 (k_nil (by decide +kernel)))
theorem k_t68_0 : ((T_68.drop 0).take 60).all (fun r => k_ok 68 r.1 r.2) = true := by decide +kernel
theorem k_t68 : T_68.all (fun r => k_ok 68 r.1 r.2) = true := k_top (k_cut (a := 0) (n := 60) k_t68_0 (k_nil (by decide +kernel)))
theorem k_t69_0 : ((T_69.drop 0).take 60).all (fun r => k_ok 69 r.1 r.2) = true := by decide +kernel
theorem k_t69_1 : ((T_69.drop 60).take 60).all (fun r => k_ok 69 r.1 r.2) = true := by decide +kernel
theorem k_t69 : T_69.all (fun r => k_ok 69 r.1 r.2) = true := k_top (k_cut (a := 0) (n := 60) k_t69_0 (k_cut (a := 60) (n := 60) k_t69_1 (k_nil (by decide +kernel))))
theorem k_t70_0 : ((T_70.drop 0).take 60).all (fun r => k_ok 70 r.1 r.2) = true := by decide +kernel
theorem k_t70 : T_70.all (fun r => k_ok 70 r.1 r.2) = true := k_top (k_cut (a := 0) (n := 60) k_t70_0 (k_nil (by decide +kernel)))
theorem k_t71_0 : ((T_71.drop 0).take 60).all (fun r => k_ok 71 r.1 r.2) = true := by decide +kernel
theorem k_t71 : T_71.all (fun r => k_ok 71 r.1 r.2) = true := k_top (k_cut (a := 0) (n := 60) k_t71_0 (k_nil (by decide +kernel)))
theorem k_t72_0 : ((T_72.drop 0).take 60).all (fun r => k_ok 72 r.1 r.2) = true := by decide +kernel
theorem k_t72 : T_72.all (fun r => k_ok 72 r.1 r.2) = true := k_top (k_cut (a := 0) (n := 60) k_t72_0 (k_nil (by decide +kernel)))
theorem k_t73_0 : ((T_73.drop 0).take 60).all (fun r => k_ok 73 r.1 r.2) = true := by decide +kernel
theorem k_t73 : T_73.all (fun r => k_ok 73 r.1 r.2) = true := k_top (k_cut (a := 0) (n := 60) k_t73_0 (k_nil (by decide +kernel)))
theorem k_t74_0 : ((T_74.drop 0).take 60).all (fun r => k_ok 74 r.1 r.2) = true := by decide +kernel
theorem k_t74 : T_74.all (fun r => k_ok 74 r.1 r.2) = true := k_top (k_cut (a := 0) (n := 60) k_t74_0 (k_nil (by decide +kernel)))
theorem k_t75_0 : ((T_75.drop 0).take 60).all (fun r => k_ok 75 r.1 r.2) = true := by decide +kernel
theorem k_t75 : T_75.all (fun r => k_ok 75 r.1 r.2) = true := k_top (k_cut (a := 0) (n := 60) k_t75_0 (k_nil (by decide +kernel)))
theorem k_t76_0 : ((T_76.drop 0).take 60).all (fun r => k_ok 76 r.1 r.2) = true := by decide +kernel
theorem k_t76_1 : ((T_76.drop 60).take 60).all (fun r => k_ok 76 r.1 r.2) = true := by decide +kernel
theorem k_t76 : T_76.all (fun r => k_ok 76 r.1 r.2) = true := k_top (k_cut (a := 0) (n := 60) k_t76_0 (k_cut (a := 60) (n := 60) k_t76_1 (k_nil (by decide +kernel))))
theorem k_t77_0 : ((T_77.drop 0).take 60).all (fun r => k_ok 77 r.1 r.2) = true := by decide +kernel
theorem k_t77 : T_77.all (fun r => k_ok 77 r.1 r.2) = true := k_top (k_cut (a := 0) (n := 60) k_t77_0 (k_nil (by decide +kernel)))
theorem k_t78_0 : ((T_78.drop 0).take 60).all (fun r => k_ok 78 r.1 r.2) = true := by decide +kernel
theorem k_t78_1 : ((T_78.drop 60).take 60).all (fun r => k_ok 78 r.1 r.2) = true := by decide +kernel
theorem k_t78 : T_78.all (fun r => k_ok 78 r.1 r.2) = true := k_top (k_cut (a := 0) (n := 60) k_t78_0 (k_cut (a := 60) (n := 60) k_t78_1 (k_nil (by decide +kernel))))
theorem k_t79_0 : ((T_79.drop 0).take 60).all (fun r => k_ok 79 r.1 r.2) = true := by decide +kernel
theorem k_t79 : T_79.all (fun r => k_ok 79 r.1 r.2) = true := k_top (k_cut (a := 0) (n := 60) k_t79_0 (k_nil (by decide +kernel)))
