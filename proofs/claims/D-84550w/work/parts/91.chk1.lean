set_option maxRecDepth 100000
set_option maxHeartbeats 4000000
theorem zk_2_0 : zokN 2 30 ((cd 2).drop 0) = true := by decide +kernel
theorem zk_2_30 : zokN 2 30 ((cd 2).drop 30) = true := by decide +kernel
theorem zk_2_60 : zokN 2 30 ((cd 2).drop 60) = true := by decide +kernel
theorem zk_2_90 : zokN 2 30 ((cd 2).drop 90) = true := by decide +kernel
theorem zk_2_120 : zokN 2 30 ((cd 2).drop 120) = true := by decide +kernel
theorem zk_2_150 : zokN 2 30 ((cd 2).drop 150) = true := by decide +kernel
theorem zk_2_180 : zokN 2 30 ((cd 2).drop 180) = true := by decide +kernel
theorem zk_2_210 : zokN 2 30 ((cd 2).drop 210) = true := by decide +kernel
theorem zk_2_240 : zokN 2 30 ((cd 2).drop 240) = true := by decide +kernel
theorem zk_2_270 : zokN 2 30 ((cd 2).drop 270) = true := by decide +kernel
theorem zk_2_300 : zokN 2 30 ((cd 2).drop 300) = true := by decide +kernel
theorem zk_2_330 : zokN 2 30 ((cd 2).drop 330) = true := by decide +kernel
theorem zk_2_360 : zokN 2 30 ((cd 2).drop 360) = true := by decide +kernel
theorem zk_2_390 : zokN 2 30 ((cd 2).drop 390) = true := by decide +kernel
theorem zk_2_420 : zokN 2 30 ((cd 2).drop 420) = true := by decide +kernel
theorem zk_2_450 : zokN 2 30 ((cd 2).drop 450) = true := by decide +kernel
theorem zk_2_480 : zokN 2 30 ((cd 2).drop 480) = true := by decide +kernel
theorem zk_2_510 : zokN 2 30 ((cd 2).drop 510) = true := by decide +kernel
theorem zk_2_540 : zokN 2 30 ((cd 2).drop 540) = true := by decide +kernel
theorem zk_2_570 : zokN 2 30 ((cd 2).drop 570) = true := by decide +kernel
theorem zk_2_600 : zokN 2 30 ((cd 2).drop 600) = true := by decide +kernel
theorem zk_2_630 : zokN 2 30 ((cd 2).drop 630) = true := by decide +kernel
theorem zk_2_660 : zokN 2 30 ((cd 2).drop 660) = true := by decide +kernel
theorem zk_2_690 : zokN 2 30 ((cd 2).drop 690) = true := by decide +kernel
theorem zk_2_720 : zokN 2 30 ((cd 2).drop 720) = true := by decide +kernel
theorem zk_2_750 : zokN 2 30 ((cd 2).drop 750) = true := by decide +kernel
theorem zk_2_780 : zokN 2 30 ((cd 2).drop 780) = true := by decide +kernel
theorem zk_2_810 : zokN 2 30 ((cd 2).drop 810) = true := by decide +kernel
theorem zk_2 : zokL 2 (cd 2) = true := by
  have h840 : zokL 2 ((cd 2).drop 840) = true := rfl
  have h810 : zokL 2 ((cd 2).drop 810) = true := zokN_join 30 _ zk_2_810 (by rw [List.drop_drop]; exact h840)
  have h780 : zokL 2 ((cd 2).drop 780) = true := zokN_join 30 _ zk_2_780 (by rw [List.drop_drop]; exact h810)
  have h750 : zokL 2 ((cd 2).drop 750) = true := zokN_join 30 _ zk_2_750 (by rw [List.drop_drop]; exact h780)
  have h720 : zokL 2 ((cd 2).drop 720) = true := zokN_join 30 _ zk_2_720 (by rw [List.drop_drop]; exact h750)
  have h690 : zokL 2 ((cd 2).drop 690) = true := zokN_join 30 _ zk_2_690 (by rw [List.drop_drop]; exact h720)
  have h660 : zokL 2 ((cd 2).drop 660) = true := zokN_join 30 _ zk_2_660 (by rw [List.drop_drop]; exact h690)
  have h630 : zokL 2 ((cd 2).drop 630) = true := zokN_join 30 _ zk_2_630 (by rw [List.drop_drop]; exact h660)
  have h600 : zokL 2 ((cd 2).drop 600) = true := zokN_join 30 _ zk_2_600 (by rw [List.drop_drop]; exact h630)
  have h570 : zokL 2 ((cd 2).drop 570) = true := zokN_join 30 _ zk_2_570 (by rw [List.drop_drop]; exact h600)
  have h540 : zokL 2 ((cd 2).drop 540) = true := zokN_join 30 _ zk_2_540 (by rw [List.drop_drop]; exact h570)
  have h510 : zokL 2 ((cd 2).drop 510) = true := zokN_join 30 _ zk_2_510 (by rw [List.drop_drop]; exact h540)
  have h480 : zokL 2 ((cd 2).drop 480) = true := zokN_join 30 _ zk_2_480 (by rw [List.drop_drop]; exact h510)
  have h450 : zokL 2 ((cd 2).drop 450) = true := zokN_join 30 _ zk_2_450 (by rw [List.drop_drop]; exact h480)
  have h420 : zokL 2 ((cd 2).drop 420) = true := zokN_join 30 _ zk_2_420 (by rw [List.drop_drop]; exact h450)
  have h390 : zokL 2 ((cd 2).drop 390) = true := zokN_join 30 _ zk_2_390 (by rw [List.drop_drop]; exact h420)
  have h360 : zokL 2 ((cd 2).drop 360) = true := zokN_join 30 _ zk_2_360 (by rw [List.drop_drop]; exact h390)
  have h330 : zokL 2 ((cd 2).drop 330) = true := zokN_join 30 _ zk_2_330 (by rw [List.drop_drop]; exact h360)
  have h300 : zokL 2 ((cd 2).drop 300) = true := zokN_join 30 _ zk_2_300 (by rw [List.drop_drop]; exact h330)
  have h270 : zokL 2 ((cd 2).drop 270) = true := zokN_join 30 _ zk_2_270 (by rw [List.drop_drop]; exact h300)
  have h240 : zokL 2 ((cd 2).drop 240) = true := zokN_join 30 _ zk_2_240 (by rw [List.drop_drop]; exact h270)
  have h210 : zokL 2 ((cd 2).drop 210) = true := zokN_join 30 _ zk_2_210 (by rw [List.drop_drop]; exact h240)
  have h180 : zokL 2 ((cd 2).drop 180) = true := zokN_join 30 _ zk_2_180 (by rw [List.drop_drop]; exact h210)
  have h150 : zokL 2 ((cd 2).drop 150) = true := zokN_join 30 _ zk_2_150 (by rw [List.drop_drop]; exact h180)
  have h120 : zokL 2 ((cd 2).drop 120) = true := zokN_join 30 _ zk_2_120 (by rw [List.drop_drop]; exact h150)
  have h90 : zokL 2 ((cd 2).drop 90) = true := zokN_join 30 _ zk_2_90 (by rw [List.drop_drop]; exact h120)
  have h60 : zokL 2 ((cd 2).drop 60) = true := zokN_join 30 _ zk_2_60 (by rw [List.drop_drop]; exact h90)
  have h30 : zokL 2 ((cd 2).drop 30) = true := zokN_join 30 _ zk_2_30 (by rw [List.drop_drop]; exact h60)
  have h0 : zokL 2 ((cd 2).drop 0) = true := zokN_join 30 _ zk_2_0 (by rw [List.drop_drop]; exact h30)
  exact h0
theorem zk_3_0 : zokN 3 30 ((cd 3).drop 0) = true := by decide +kernel
theorem zk_3 : zokL 3 (cd 3) = true := by
  have h30 : zokL 3 ((cd 3).drop 30) = true := rfl
  have h0 : zokL 3 ((cd 3).drop 0) = true := zokN_join 30 _ zk_3_0 (by rw [List.drop_drop]; exact h30)
  exact h0
theorem zk_4_0 : zokN 4 30 ((cd 4).drop 0) = true := by decide +kernel
theorem zk_4 : zokL 4 (cd 4) = true := by
  have h30 : zokL 4 ((cd 4).drop 30) = true := rfl
  have h0 : zokL 4 ((cd 4).drop 0) = true := zokN_join 30 _ zk_4_0 (by rw [List.drop_drop]; exact h30)
  exact h0
theorem zk_5_0 : zokN 5 30 ((cd 5).drop 0) = true := by decide +kernel
theorem zk_5 : zokL 5 (cd 5) = true := by
  have h30 : zokL 5 ((cd 5).drop 30) = true := rfl
  have h0 : zokL 5 ((cd 5).drop 0) = true := zokN_join 30 _ zk_5_0 (by rw [List.drop_drop]; exact h30)
  exact h0
theorem zk_6_0 : zokN 6 30 ((cd 6).drop 0) = true := by decide +kernel
theorem zk_6_30 : zokN 6 30 ((cd 6).drop 30) = true := by decide +kernel
theorem zk_6_60 : zokN 6 30 ((cd 6).drop 60) = true := by decide +kernel
theorem zk_6_90 : zokN 6 30 ((cd 6).drop 90) = true := by decide +kernel
theorem zk_6_120 : zokN 6 30 ((cd 6).drop 120) = true := by decide +kernel
theorem zk_6 : zokL 6 (cd 6) = true := by
  have h150 : zokL 6 ((cd 6).drop 150) = true := rfl
  have h120 : zokL 6 ((cd 6).drop 120) = true := zokN_join 30 _ zk_6_120 (by rw [List.drop_drop]; exact h150)
  have h90 : zokL 6 ((cd 6).drop 90) = true := zokN_join 30 _ zk_6_90 (by rw [List.drop_drop]; exact h120)
  have h60 : zokL 6 ((cd 6).drop 60) = true := zokN_join 30 _ zk_6_60 (by rw [List.drop_drop]; exact h90)
  have h30 : zokL 6 ((cd 6).drop 30) = true := zokN_join 30 _ zk_6_30 (by rw [List.drop_drop]; exact h60)
  have h0 : zokL 6 ((cd 6).drop 0) = true := zokN_join 30 _ zk_6_0 (by rw [List.drop_drop]; exact h30)
  exact h0
theorem zk_7_0 : zokN 7 30 ((cd 7).drop 0) = true := by decide +kernel
theorem zk_7_30 : zokN 7 30 ((cd 7).drop 30) = true := by decide +kernel
theorem zk_7 : zokL 7 (cd 7) = true := by
  have h60 : zokL 7 ((cd 7).drop 60) = true := rfl
  have h30 : zokL 7 ((cd 7).drop 30) = true := zokN_join 30 _ zk_7_30 (by rw [List.drop_drop]; exact h60)
  have h0 : zokL 7 ((cd 7).drop 0) = true := zokN_join 30 _ zk_7_0 (by rw [List.drop_drop]; exact h30)
  exact h0
theorem zk_8_0 : zokN 8 30 ((cd 8).drop 0) = true := by decide +kernel
theorem zk_8 : zokL 8 (cd 8) = true := by
  have h30 : zokL 8 ((cd 8).drop 30) = true := rfl
  have h0 : zokL 8 ((cd 8).drop 0) = true := zokN_join 30 _ zk_8_0 (by rw [List.drop_drop]; exact h30)
  exact h0
theorem zk_9_0 : zokN 9 30 ((cd 9).drop 0) = true := by decide +kernel
theorem zk_9 : zokL 9 (cd 9) = true := by
  have h30 : zokL 9 ((cd 9).drop 30) = true := rfl
  have h0 : zokL 9 ((cd 9).drop 0) = true := zokN_join 30 _ zk_9_0 (by rw [List.drop_drop]; exact h30)
  exact h0
theorem zk_10_0 : zokN 10 30 ((cd 10).drop 0) = true := by decide +kernel
theorem zk_10 : zokL 10 (cd 10) = true := by
  have h30 : zokL 10 ((cd 10).drop 30) = true := rfl
  have h0 : zokL 10 ((cd 10).drop 0) = true := zokN_join 30 _ zk_10_0 (by rw [List.drop_drop]; exact h30)
  exact h0
theorem zk_11_0 : zokN 11 30 ((cd 11).drop 0) = true := by decide +kernel
theorem zk_11 : zokL 11 (cd 11) = true := by
  have h30 : zokL 11 ((cd 11).drop 30) = true := rfl
  have h0 : zokL 11 ((cd 11).drop 0) = true := zokN_join 30 _ zk_11_0 (by rw [List.drop_drop]; exact h30)
  exact h0
theorem zk_12_0 : zokN 12 30 ((cd 12).drop 0) = true := by decide +kernel
theorem zk_12_30 : zokN 12 30 ((cd 12).drop 30) = true := by decide +kernel
theorem zk_12_60 : zokN 12 30 ((cd 12).drop 60) = true := by decide +kernel
theorem zk_12_90 : zokN 12 30 ((cd 12).drop 90) = true := by decide +kernel
theorem zk_12_120 : zokN 12 30 ((cd 12).drop 120) = true := by decide +kernel
theorem zk_12 : zokL 12 (cd 12) = true := by
  have h150 : zokL 12 ((cd 12).drop 150) = true := rfl
  have h120 : zokL 12 ((cd 12).drop 120) = true := zokN_join 30 _ zk_12_120 (by rw [List.drop_drop]; exact h150)
  have h90 : zokL 12 ((cd 12).drop 90) = true := zokN_join 30 _ zk_12_90 (by rw [List.drop_drop]; exact h120)
  have h60 : zokL 12 ((cd 12).drop 60) = true := zokN_join 30 _ zk_12_60 (by rw [List.drop_drop]; exact h90)
  have h30 : zokL 12 ((cd 12).drop 30) = true := zokN_join 30 _ zk_12_30 (by rw [List.drop_drop]; exact h60)
  have h0 : zokL 12 ((cd 12).drop 0) = true := zokN_join 30 _ zk_12_0 (by rw [List.drop_drop]; exact h30)
  exact h0
theorem zk_13_0 : zokN 13 30 ((cd 13).drop 0) = true := by decide +kernel
theorem zk_13 : zokL 13 (cd 13) = true := by
  have h30 : zokL 13 ((cd 13).drop 30) = true := rfl
  have h0 : zokL 13 ((cd 13).drop 0) = true := zokN_join 30 _ zk_13_0 (by rw [List.drop_drop]; exact h30)
  exact h0
theorem zk_14_0 : zokN 14 30 ((cd 14).drop 0) = true := by decide +kernel
theorem zk_14_30 : zokN 14 30 ((cd 14).drop 30) = true := by decide +kernel
theorem zk_14 : zokL 14 (cd 14) = true := by
  have h60 : zokL 14 ((cd 14).drop 60) = true := rfl
  have h30 : zokL 14 ((cd 14).drop 30) = true := zokN_join 30 _ zk_14_30 (by rw [List.drop_drop]; exact h60)
  have h0 : zokL 14 ((cd 14).drop 0) = true := zokN_join 30 _ zk_14_0 (by rw [List.drop_drop]; exact h30)
  exact h0
theorem zk_15_0 : zokN 15 30 ((cd 15).drop 0) = true := by decide +kernel
theorem zk_15 : zokL 15 (cd 15) = true := by
  have h30 : zokL 15 ((cd 15).drop 30) = true := rfl
  have h0 : zokL 15 ((cd 15).drop 0) = true := zokN_join 30 _ zk_15_0 (by rw [List.drop_drop]; exact h30)
  exact h0
theorem zk_16_0 : zokN 16 30 ((cd 16).drop 0) = true := by decide +kernel
theorem zk_16_30 : zokN 16 30 ((cd 16).drop 30) = true := by decide +kernel
theorem zk_16_60 : zokN 16 30 ((cd 16).drop 60) = true := by decide +kernel
theorem zk_16 : zokL 16 (cd 16) = true := by
  have h90 : zokL 16 ((cd 16).drop 90) = true := rfl
  have h60 : zokL 16 ((cd 16).drop 60) = true := zokN_join 30 _ zk_16_60 (by rw [List.drop_drop]; exact h90)
  have h30 : zokL 16 ((cd 16).drop 30) = true := zokN_join 30 _ zk_16_30 (by rw [List.drop_drop]; exact h60)
  have h0 : zokL 16 ((cd 16).drop 0) = true := zokN_join 30 _ zk_16_0 (by rw [List.drop_drop]; exact h30)
  exact h0
theorem zk_17_0 : zokN 17 30 ((cd 17).drop 0) = true := by decide +kernel
theorem zk_17 : zokL 17 (cd 17) = true := by
  have h30 : zokL 17 ((cd 17).drop 30) = true := rfl
  have h0 : zokL 17 ((cd 17).drop 0) = true := zokN_join 30 _ zk_17_0 (by rw [List.drop_drop]; exact h30)
  exact h0
theorem zk_18_0 : zokN 18 30 ((cd 18).drop 0) = true := by decide +kernel
theorem zk_18 : zokL 18 (cd 18) = true := by
  have h30 : zokL 18 ((cd 18).drop 30) = true := rfl
  have h0 : zokL 18 ((cd 18).drop 0) = true := zokN_join 30 _ zk_18_0 (by rw [List.drop_drop]; exact h30)
  exact h0
theorem zk_19_0 : zokN 19 30 ((cd 19).drop 0) = true := by decide +kernel
theorem zk_19 : zokL 19 (cd 19) = true := by
  have h30 : zokL 19 ((cd 19).drop 30) = true := rfl
  have h0 : zokL 19 ((cd 19).drop 0) = true := zokN_join 30 _ zk_19_0 (by rw [List.drop_drop]; exact h30)
  exact h0
theorem zk_20_0 : zokN 20 30 ((cd 20).drop 0) = true := by decide +kernel
theorem zk_20 : zokL 20 (cd 20) = true := by
  have h30 : zokL 20 ((cd 20).drop 30) = true := rfl
  have h0 : zokL 20 ((cd 20).drop 0) = true := zokN_join 30 _ zk_20_0 (by rw [List.drop_drop]; exact h30)
  exact h0
theorem zk_21_0 : zokN 21 30 ((cd 21).drop 0) = true := by decide +kernel
theorem zk_21 : zokL 21 (cd 21) = true := by
  have h30 : zokL 21 ((cd 21).drop 30) = true := rfl
  have h0 : zokL 21 ((cd 21).drop 0) = true := zokN_join 30 _ zk_21_0 (by rw [List.drop_drop]; exact h30)
  exact h0
theorem zk_22_0 : zokN 22 30 ((cd 22).drop 0) = true := by decide +kernel
theorem zk_22_30 : zokN 22 30 ((cd 22).drop 30) = true := by decide +kernel
theorem zk_22 : zokL 22 (cd 22) = true := by
  have h60 : zokL 22 ((cd 22).drop 60) = true := rfl
  have h30 : zokL 22 ((cd 22).drop 30) = true := zokN_join 30 _ zk_22_30 (by rw [List.drop_drop]; exact h60)
  have h0 : zokL 22 ((cd 22).drop 0) = true := zokN_join 30 _ zk_22_0 (by rw [List.drop_drop]; exact h30)
  exact h0
theorem zk_23_0 : zokN 23 30 ((cd 23).drop 0) = true := by decide +kernel
theorem zk_23_30 : zokN 23 30 ((cd 23).drop 30) = true := by decide +kernel
theorem zk_23_60 : zokN 23 30 ((cd 23).drop 60) = true := by decide +kernel
theorem zk_23_90 : zokN 23 30 ((cd 23).drop 90) = true := by decide +kernel
theorem zk_23 : zokL 23 (cd 23) = true := by
  have h120 : zokL 23 ((cd 23).drop 120) = true := rfl
  have h90 : zokL 23 ((cd 23).drop 90) = true := zokN_join 30 _ zk_23_90 (by rw [List.drop_drop]; exact h120)
  have h60 : zokL 23 ((cd 23).drop 60) = true := zokN_join 30 _ zk_23_60 (by rw [List.drop_drop]; exact h90)
  have h30 : zokL 23 ((cd 23).drop 30) = true := zokN_join 30 _ zk_23_30 (by rw [List.drop_drop]; exact h60)
  have h0 : zokL 23 ((cd 23).drop 0) = true := zokN_join 30 _ zk_23_0 (by rw [List.drop_drop]; exact h30)
  exact h0
theorem zk_24_0 : zokN 24 30 ((cd 24).drop 0) = true := by decide +kernel
theorem zk_24 : zokL 24 (cd 24) = true := by
  have h30 : zokL 24 ((cd 24).drop 30) = true := rfl
  have h0 : zokL 24 ((cd 24).drop 0) = true := zokN_join 30 _ zk_24_0 (by rw [List.drop_drop]; exact h30)
  exact h0
theorem zk_25_0 : zokN 25 30 ((cd 25).drop 0) = true := by decide +kernel
theorem zk_25 : zokL 25 (cd 25) = true := by
  have h30 : zokL 25 ((cd 25).drop 30) = true := rfl
  have h0 : zokL 25 ((cd 25).drop 0) = true := zokN_join 30 _ zk_25_0 (by rw [List.drop_drop]; exact h30)
  exact h0
theorem zk_26_0 : zokN 26 30 ((cd 26).drop 0) = true := by decide +kernel
theorem zk_26 : zokL 26 (cd 26) = true := by
  have h30 : zokL 26 ((cd 26).drop 30) = true := rfl
  have h0 : zokL 26 ((cd 26).drop 0) = true := zokN_join 30 _ zk_26_0 (by rw [List.drop_drop]; exact h30)
  exact h0
theorem zk_27_0 : zokN 27 30 ((cd 27).drop 0) = true := by decide +kernel
theorem zk_27_30 : zokN 27 30 ((cd 27).drop 30) = true := by decide +kernel
theorem zk_27 : zokL 27 (cd 27) = true := by
  have h60 : zokL 27 ((cd 27).drop 60) = true := rfl
  have h30 : zokL 27 ((cd 27).drop 30) = true := zokN_join 30 _ zk_27_30 (by rw [List.drop_drop]; exact h60)
  have h0 : zokL 27 ((cd 27).drop 0) = true := zokN_join 30 _ zk_27_0 (by rw [List.drop_drop]; exact h30)
  exact h0
theorem zk_28_0 : zokN 28 30 ((cd 28).drop 0) = true := by decide +kernel
theorem zk_28 : zokL 28 (cd 28) = true := by
  have h30 : zokL 28 ((cd 28).drop 30) = true := rfl
  have h0 : zokL 28 ((cd 28).drop 0) = true := zokN_join 30 _ zk_28_0 (by rw [List.drop_drop]; exact h30)
  exact h0
theorem zk_29_0 : zokN 29 30 ((cd 29).drop 0) = true := by decide +kernel
theorem zk_29 : zokL 29 (cd 29) = true := by
  have h30 : zokL 29 ((cd 29).drop 30) = true := rfl
  have h0 : zokL 29 ((cd 29).drop 0) = true := zokN_join 30 _ zk_29_0 (by rw [List.drop_drop]; exact h30)
  exact h0
theorem zk_30_0 : zokN 30 30 ((cd 30).drop 0) = true := by decide +kernel
theorem zk_30_30 : zokN 30 30 ((cd 30).drop 30) = true := by decide +kernel
theorem zk_30 : zokL 30 (cd 30) = true := by
  have h60 : zokL 30 ((cd 30).drop 60) = true := rfl
  have h30 : zokL 30 ((cd 30).drop 30) = true := zokN_join 30 _ zk_30_30 (by rw [List.drop_drop]; exact h60)
  have h0 : zokL 30 ((cd 30).drop 0) = true := zokN_join 30 _ zk_30_0 (by rw [List.drop_drop]; exact h30)
  exact h0
theorem zk_31_0 : zokN 31 30 ((cd 31).drop 0) = true := by decide +kernel
theorem zk_31 : zokL 31 (cd 31) = true := by
  have h30 : zokL 31 ((cd 31).drop 30) = true := rfl
  have h0 : zokL 31 ((cd 31).drop 0) = true := zokN_join 30 _ zk_31_0 (by rw [List.drop_drop]; exact h30)
  exact h0
theorem zk_32_0 : zokN 32 30 ((cd 32).drop 0) = true := by decide +kernel
theorem zk_32 : zokL 32 (cd 32) = true := by
  have h30 : zokL 32 ((cd 32).drop 30) = true := rfl
  have h0 : zokL 32 ((cd 32).drop 0) = true := zokN_join 30 _ zk_32_0 (by rw [List.drop_drop]; exact h30)
  exact h0
theorem zk_33_0 : zokN 33 30 ((cd 33).drop 0) = true := by decide +kernel
theorem zk_33 : zokL 33 (cd 33) = true := by
  have h30 : zokL 33 ((cd 33).drop 30) = true := rfl
  have h0 : zokL 33 ((cd 33).drop 0) = true := zokN_join 30 _ zk_33_0 (by rw [List.drop_drop]; exact h30)
  exact h0
theorem zk_34_0 : zokN 34 30 ((cd 34).drop 0) = true := by decide +kernel
theorem zk_34 : zokL 34 (cd 34) = true := by
  have h30 : zokL 34 ((cd 34).drop 30) = true := rfl
  have h0 : zokL 34 ((cd 34).drop 0) = true := zokN_join 30 _ zk_34_0 (by rw [List.drop_drop]; exact h30)
  exact h0
theorem zk_35_0 : zokN 35 30 ((cd 35).drop 0) = true := by decide +kernel
theorem zk_35 : zokL 35 (cd 35) = true := by
  have h30 : zokL 35 ((cd 35).drop 30) = true := rfl
  have h0 : zokL 35 ((cd 35).drop 0) = true := zokN_join 30 _ zk_35_0 (by rw [List.drop_drop]; exact h30)
  exact h0
theorem zk_36_0 : zokN 36 30 ((cd 36).drop 0) = true := by decide +kernel
theorem zk_36 : zokL 36 (cd 36) = true := by
  have h30 : zokL 36 ((cd 36).drop 30) = true := rfl
  have h0 : zokL 36 ((cd 36).drop 0) = true := zokN_join 30 _ zk_36_0 (by rw [List.drop_drop]; exact h30)
  exact h0
theorem zk_37_0 : zokN 37 30 ((cd 37).drop 0) = true := by decide +kernel
theorem zk_37 : zokL 37 (cd 37) = true := by
  have h30 : zokL 37 ((cd 37).drop 30) = true := rfl
  have h0 : zokL 37 ((cd 37).drop 0) = true := zokN_join 30 _ zk_37_0 (by rw [List.drop_drop]; exact h30)
  exact h0
theorem zk_38_0 : zokN 38 30 ((cd 38).drop 0) = true := by decide +kernel
theorem zk_38 : zokL 38 (cd 38) = true := by
  have h30 : zokL 38 ((cd 38).drop 30) = true := rfl
  have h0 : zokL 38 ((cd 38).drop 0) = true := zokN_join 30 _ zk_38_0 (by rw [List.drop_drop]; exact h30)
  exact h0
theorem zk_39_0 : zokN 39 30 ((cd 39).drop 0) = true := by decide +kernel
theorem zk_39 : zokL 39 (cd 39) = true := by
  have h30 : zokL 39 ((cd 39).drop 30) = true := rfl
  have h0 : zokL 39 ((cd 39).drop 0) = true := zokN_join 30 _ zk_39_0 (by rw [List.drop_drop]; exact h30)
  exact h0
theorem zk_40_0 : zokN 40 30 ((cd 40).drop 0) = true := by decide +kernel
theorem zk_40 : zokL 40 (cd 40) = true := by
  have h30 : zokL 40 ((cd 40).drop 30) = true := rfl
  have h0 : zokL 40 ((cd 40).drop 0) = true := zokN_join 30 _ zk_40_0 (by rw [List.drop_drop]; exact h30)
  exact h0
theorem zk_41_0 : zokN 41 30 ((cd 41).drop 0) = true := by decide +kernel
theorem zk_41_30 : zokN 41 30 ((cd 41).drop 30) = true := by decide +kernel
theorem zk_41 : zokL 41 (cd 41) = true := by
  have h60 : zokL 41 ((cd 41).drop 60) = true := rfl
  have h30 : zokL 41 ((cd 41).drop 30) = true := zokN_join 30 _ zk_41_30 (by rw [List.drop_drop]; exact h60)
  have h0 : zokL 41 ((cd 41).drop 0) = true := zokN_join 30 _ zk_41_0 (by rw [List.drop_drop]; exact h30)
  exact h0
theorem zk_42_0 : zokN 42 30 ((cd 42).drop 0) = true := by decide +kernel
theorem zk_42 : zokL 42 (cd 42) = true := by
  have h30 : zokL 42 ((cd 42).drop 30) = true := rfl
  have h0 : zokL 42 ((cd 42).drop 0) = true := zokN_join 30 _ zk_42_0 (by rw [List.drop_drop]; exact h30)
  exact h0
theorem zk_43_0 : zokN 43 30 ((cd 43).drop 0) = true := by decide +kernel
theorem zk_43 : zokL 43 (cd 43) = true := by
  have h30 : zokL 43 ((cd 43).drop 30) = true := rfl
  have h0 : zokL 43 ((cd 43).drop 0) = true := zokN_join 30 _ zk_43_0 (by rw [List.drop_drop]; exact h30)
  exact h0
theorem zk_44_0 : zokN 44 30 ((cd 44).drop 0) = true := by decide +kernel
theorem zk_44 : zokL 44 (cd 44) = true := by
  have h30 : zokL 44 ((cd 44).drop 30) = true := rfl
  have h0 : zokL 44 ((cd 44).drop 0) = true := zokN_join 30 _ zk_44_0 (by rw [List.drop_drop]; exact h30)
  exact h0
theorem zk_45_0 : zokN 45 30 ((cd 45).drop 0) = true := by decide +kernel
theorem zk_45 : zokL 45 (cd 45) = true := by
  have h30 : zokL 45 ((cd 45).drop 30) = true := rfl
  have h0 : zokL 45 ((cd 45).drop 0) = true := zokN_join 30 _ zk_45_0 (by rw [List.drop_drop]; exact h30)
  exact h0
theorem zk_46_0 : zokN 46 30 ((cd 46).drop 0) = true := by decide +kernel
theorem zk_46 : zokL 46 (cd 46) = true := by
  have h30 : zokL 46 ((cd 46).drop 30) = true := rfl
  have h0 : zokL 46 ((cd 46).drop 0) = true := zokN_join 30 _ zk_46_0 (by rw [List.drop_drop]; exact h30)
  exact h0
theorem zk_47_0 : zokN 47 30 ((cd 47).drop 0) = true := by decide +kernel
theorem zk_47 : zokL 47 (cd 47) = true := by
  have h30 : zokL 47 ((cd 47).drop 30) = true := rfl
  have h0 : zokL 47 ((cd 47).drop 0) = true := zokN_join 30 _ zk_47_0 (by rw [List.drop_drop]; exact h30)
  exact h0
theorem zk_48_0 : zokN 48 30 ((cd 48).drop 0) = true := by decide +kernel
theorem zk_48 : zokL 48 (cd 48) = true := by
  have h30 : zokL 48 ((cd 48).drop 30) = true := rfl
  have h0 : zokL 48 ((cd 48).drop 0) = true := zokN_join 30 _ zk_48_0 (by rw [List.drop_drop]; exact h30)
  exact h0
theorem zk_49_0 : zokN 49 30 ((cd 49).drop 0) = true := by decide +kernel
theorem zk_49 : zokL 49 (cd 49) = true := by
  have h30 : zokL 49 ((cd 49).drop 30) = true := rfl
  have h0 : zokL 49 ((cd 49).drop 0) = true := zokN_join 30 _ zk_49_0 (by rw [List.drop_drop]; exact h30)
  exact h0
theorem zk_50_0 : zokN 50 30 ((cd 50).drop 0) = true := by decide +kernel
theorem zk_50 : zokL 50 (cd 50) = true := by
  have h30 : zokL 50 ((cd 50).drop 30) = true := rfl
  have h0 : zokL 50 ((cd 50).drop 0) = true := zokN_join 30 _ zk_50_0 (by rw [List.drop_drop]; exact h30)
  exact h0
theorem zk_51_0 : zokN 51 30 ((cd 51).drop 0) = true := by decide +kernel
theorem zk_51 : zokL 51 (cd 51) = true := by
  have h30 : zokL 51 ((cd 51).drop 30) = true := rfl
  have h0 : zokL 51 ((cd 51).drop 0) = true := zokN_join 30 _ zk_51_0 (by rw [List.drop_drop]; exact h30)
  exact h0
theorem zk_52_0 : zokN 52 30 ((cd 52).drop 0) = true := by decide +kernel
theorem zk_52 : zokL 52 (cd 52) = true := by
  have h30 : zokL 52 ((cd 52).drop 30) = true := rfl
  have h0 : zokL 52 ((cd 52).drop 0) = true := zokN_join 30 _ zk_52_0 (by rw [List.drop_drop]; exact h30)
  exact h0
theorem zk_53_0 : zokN 53 30 ((cd 53).drop 0) = true := by decide +kernel
theorem zk_53_30 : zokN 53 30 ((cd 53).drop 30) = true := by decide +kernel
theorem zk_53 : zokL 53 (cd 53) = true := by
  have h60 : zokL 53 ((cd 53).drop 60) = true := rfl
  have h30 : zokL 53 ((cd 53).drop 30) = true := zokN_join 30 _ zk_53_30 (by rw [List.drop_drop]; exact h60)
  have h0 : zokL 53 ((cd 53).drop 0) = true := zokN_join 30 _ zk_53_0 (by rw [List.drop_drop]; exact h30)
  exact h0
theorem zk_54_0 : zokN 54 30 ((cd 54).drop 0) = true := by decide +kernel
theorem zk_54 : zokL 54 (cd 54) = true := by
  have h30 : zokL 54 ((cd 54).drop 30) = true := rfl
  have h0 : zokL 54 ((cd 54).drop 0) = true := zokN_join 30 _ zk_54_0 (by rw [List.drop_drop]; exact h30)
  exact h0
theorem zk_55_0 : zokN 55 30 ((cd 55).drop 0) = true := by decide +kernel
theorem zk_55 : zokL 55 (cd 55) = true := by
  have h30 : zokL 55 ((cd 55).drop 30) = true := rfl
  have h0 : zokL 55 ((cd 55).drop 0) = true := zokN_join 30 _ zk_55_0 (by rw [List.drop_drop]; exact h30)
  exact h0
theorem zk_56_0 : zokN 56 30 ((cd 56).drop 0) = true := by decide +kernel
theorem zk_56 : zokL 56 (cd 56) = true := by
  have h30 : zokL 56 ((cd 56).drop 30) = true := rfl
  have h0 : zokL 56 ((cd 56).drop 0) = true := zokN_join 30 _ zk_56_0 (by rw [List.drop_drop]; exact h30)
  exact h0
theorem zk_57_0 : zokN 57 30 ((cd 57).drop 0) = true := by decide +kernel
theorem zk_57 : zokL 57 (cd 57) = true := by
  have h30 : zokL 57 ((cd 57).drop 30) = true := rfl
  have h0 : zokL 57 ((cd 57).drop 0) = true := zokN_join 30 _ zk_57_0 (by rw [List.drop_drop]; exact h30)
  exact h0
theorem zk_58_0 : zokN 58 30 ((cd 58).drop 0) = true := by decide +kernel
theorem zk_58_30 : zokN 58 30 ((cd 58).drop 30) = true := by decide +kernel
theorem zk_58_60 : zokN 58 30 ((cd 58).drop 60) = true := by decide +kernel
theorem zk_58_90 : zokN 58 30 ((cd 58).drop 90) = true := by decide +kernel
theorem zk_58_120 : zokN 58 30 ((cd 58).drop 120) = true := by decide +kernel
theorem zk_58_150 : zokN 58 30 ((cd 58).drop 150) = true := by decide +kernel
theorem zk_58_180 : zokN 58 30 ((cd 58).drop 180) = true := by decide +kernel
theorem zk_58 : zokL 58 (cd 58) = true := by
  have h210 : zokL 58 ((cd 58).drop 210) = true := rfl
  have h180 : zokL 58 ((cd 58).drop 180) = true := zokN_join 30 _ zk_58_180 (by rw [List.drop_drop]; exact h210)
  have h150 : zokL 58 ((cd 58).drop 150) = true := zokN_join 30 _ zk_58_150 (by rw [List.drop_drop]; exact h180)
  have h120 : zokL 58 ((cd 58).drop 120) = true := zokN_join 30 _ zk_58_120 (by rw [List.drop_drop]; exact h150)
  have h90 : zokL 58 ((cd 58).drop 90) = true := zokN_join 30 _ zk_58_90 (by rw [List.drop_drop]; exact h120)
  have h60 : zokL 58 ((cd 58).drop 60) = true := zokN_join 30 _ zk_58_60 (by rw [List.drop_drop]; exact h90)
  have h30 : zokL 58 ((cd 58).drop 30) = true := zokN_join 30 _ zk_58_30 (by rw [List.drop_drop]; exact h60)
  have h0 : zokL 58 ((cd 58).drop 0) = true := zokN_join 30 _ zk_58_0 (by rw [List.drop_drop]; exact h30)
  exact h0
theorem zk_59_0 : zokN 59 30 ((cd 59).drop 0) = true := by decide +kernel
theorem zk_59 : zokL 59 (cd 59) = true := by
  have h30 : zokL 59 ((cd 59).drop 30) = true := rfl
  have h0 : zokL 59 ((cd 59).drop 0) = true := zokN_join 30 _ zk_59_0 (by rw [List.drop_drop]; exact h30)
  exact h0
theorem zk_60_0 : zokN 60 30 ((cd 60).drop 0) = true := by decide +kernel
theorem zk_60 : zokL 60 (cd 60) = true := by
  have h30 : zokL 60 ((cd 60).drop 30) = true := rfl
  have h0 : zokL 60 ((cd 60).drop 0) = true := zokN_join 30 _ zk_60_0 (by rw [List.drop_drop]; exact h30)
  exact h0
theorem zk_61_0 : zokN 61 30 ((cd 61).drop 0) = true := by decide +kernel
theorem zk_61 : zokL 61 (cd 61) = true := by
  have h30 : zokL 61 ((cd 61).drop 30) = true := rfl
  have h0 : zokL 61 ((cd 61).drop 0) = true := zokN_join 30 _ zk_61_0 (by rw [List.drop_drop]; exact h30)
  exact h0
