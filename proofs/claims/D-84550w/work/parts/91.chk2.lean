set_option maxRecDepth 100000
set_option maxHeartbeats 4000000
theorem zk_62_0 : zokN 62 30 ((cd 62).drop 0) = true := by decide +kernel
theorem zk_62_30 : zokN 62 30 ((cd 62).drop 30) = true := by decide +kernel
theorem zk_62_60 : zokN 62 30 ((cd 62).drop 60) = true := by decide +kernel
theorem zk_62 : zokL 62 (cd 62) = true := by
  have h90 : zokL 62 ((cd 62).drop 90) = true := rfl
  have h60 : zokL 62 ((cd 62).drop 60) = true := zokN_join 30 _ zk_62_60 (by rw [List.drop_drop]; exact h90)
  have h30 : zokL 62 ((cd 62).drop 30) = true := zokN_join 30 _ zk_62_30 (by rw [List.drop_drop]; exact h60)
  have h0 : zokL 62 ((cd 62).drop 0) = true := zokN_join 30 _ zk_62_0 (by rw [List.drop_drop]; exact h30)
  exact h0
theorem zk_63_0 : zokN 63 30 ((cd 63).drop 0) = true := by decide +kernel
theorem zk_63_30 : zokN 63 30 ((cd 63).drop 30) = true := by decide +kernel
theorem zk_63 : zokL 63 (cd 63) = true := by
  have h60 : zokL 63 ((cd 63).drop 60) = true := rfl
  have h30 : zokL 63 ((cd 63).drop 30) = true := zokN_join 30 _ zk_63_30 (by rw [List.drop_drop]; exact h60)
  have h0 : zokL 63 ((cd 63).drop 0) = true := zokN_join 30 _ zk_63_0 (by rw [List.drop_drop]; exact h30)
  exact h0
theorem zk_64_0 : zokN 64 30 ((cd 64).drop 0) = true := by decide +kernel
theorem zk_64_30 : zokN 64 30 ((cd 64).drop 30) = true := by decide +kernel
theorem zk_64_60 : zokN 64 30 ((cd 64).drop 60) = true := by decide +kernel
theorem zk_64 : zokL 64 (cd 64) = true := by
  have h90 : zokL 64 ((cd 64).drop 90) = true := rfl
  have h60 : zokL 64 ((cd 64).drop 60) = true := zokN_join 30 _ zk_64_60 (by rw [List.drop_drop]; exact h90)
  have h30 : zokL 64 ((cd 64).drop 30) = true := zokN_join 30 _ zk_64_30 (by rw [List.drop_drop]; exact h60)
  have h0 : zokL 64 ((cd 64).drop 0) = true := zokN_join 30 _ zk_64_0 (by rw [List.drop_drop]; exact h30)
  exact h0
theorem zk_65_0 : zokN 65 30 ((cd 65).drop 0) = true := by decide +kernel
theorem zk_65 : zokL 65 (cd 65) = true := by
  have h30 : zokL 65 ((cd 65).drop 30) = true := rfl
  have h0 : zokL 65 ((cd 65).drop 0) = true := zokN_join 30 _ zk_65_0 (by rw [List.drop_drop]; exact h30)
  exact h0
theorem zk_66_0 : zokN 66 30 ((cd 66).drop 0) = true := by decide +kernel
theorem zk_66 : zokL 66 (cd 66) = true := by
  have h30 : zokL 66 ((cd 66).drop 30) = true := rfl
  have h0 : zokL 66 ((cd 66).drop 0) = true := zokN_join 30 _ zk_66_0 (by rw [List.drop_drop]; exact h30)
  exact h0
theorem zk_67_0 : zokN 67 30 ((cd 67).drop 0) = true := by decide +kernel
theorem zk_67_30 : zokN 67 30 ((cd 67).drop 30) = true := by decide +kernel
theorem zk_67 : zokL 67 (cd 67) = true := by
  have h60 : zokL 67 ((cd 67).drop 60) = true := rfl
  have h30 : zokL 67 ((cd 67).drop 30) = true := zokN_join 30 _ zk_67_30 (by rw [List.drop_drop]; exact h60)
  have h0 : zokL 67 ((cd 67).drop 0) = true := zokN_join 30 _ zk_67_0 (by rw [List.drop_drop]; exact h30)
  exact h0
theorem zk_68_0 : zokN 68 30 ((cd 68).drop 0) = true := by decide +kernel
theorem zk_68_30 : zokN 68 30 ((cd 68).drop 30) = true := by decide +kernel
theorem zk_68 : zokL 68 (cd 68) = true := by
  have h60 : zokL 68 ((cd 68).drop 60) = true := rfl
  have h30 : zokL 68 ((cd 68).drop 30) = true := zokN_join 30 _ zk_68_30 (by rw [List.drop_drop]; exact h60)
  have h0 : zokL 68 ((cd 68).drop 0) = true := zokN_join 30 _ zk_68_0 (by rw [List.drop_drop]; exact h30)
  exact h0
theorem zk_69_0 : zokN 69 30 ((cd 69).drop 0) = true := by decide +kernel
theorem zk_69 : zokL 69 (cd 69) = true := by
  have h30 : zokL 69 ((cd 69).drop 30) = true := rfl
  have h0 : zokL 69 ((cd 69).drop 0) = true := zokN_join 30 _ zk_69_0 (by rw [List.drop_drop]; exact h30)
  exact h0
theorem zk_70_0 : zokN 70 30 ((cd 70).drop 0) = true := by decide +kernel
theorem zk_70 : zokL 70 (cd 70) = true := by
  have h30 : zokL 70 ((cd 70).drop 30) = true := rfl
  have h0 : zokL 70 ((cd 70).drop 0) = true := zokN_join 30 _ zk_70_0 (by rw [List.drop_drop]; exact h30)
  exact h0
theorem zk_71_0 : zokN 71 30 ((cd 71).drop 0) = true := by decide +kernel
theorem zk_71 : zokL 71 (cd 71) = true := by
  have h30 : zokL 71 ((cd 71).drop 30) = true := rfl
  have h0 : zokL 71 ((cd 71).drop 0) = true := zokN_join 30 _ zk_71_0 (by rw [List.drop_drop]; exact h30)
  exact h0
theorem zk_72_0 : zokN 72 30 ((cd 72).drop 0) = true := by decide +kernel
theorem zk_72 : zokL 72 (cd 72) = true := by
  have h30 : zokL 72 ((cd 72).drop 30) = true := rfl
  have h0 : zokL 72 ((cd 72).drop 0) = true := zokN_join 30 _ zk_72_0 (by rw [List.drop_drop]; exact h30)
  exact h0
theorem zk_73_0 : zokN 73 30 ((cd 73).drop 0) = true := by decide +kernel
theorem zk_73 : zokL 73 (cd 73) = true := by
  have h30 : zokL 73 ((cd 73).drop 30) = true := rfl
  have h0 : zokL 73 ((cd 73).drop 0) = true := zokN_join 30 _ zk_73_0 (by rw [List.drop_drop]; exact h30)
  exact h0
theorem zk_74_0 : zokN 74 30 ((cd 74).drop 0) = true := by decide +kernel
theorem zk_74 : zokL 74 (cd 74) = true := by
  have h30 : zokL 74 ((cd 74).drop 30) = true := rfl
  have h0 : zokL 74 ((cd 74).drop 0) = true := zokN_join 30 _ zk_74_0 (by rw [List.drop_drop]; exact h30)
  exact h0
theorem zk_75_0 : zokN 75 30 ((cd 75).drop 0) = true := by decide +kernel
theorem zk_75_30 : zokN 75 30 ((cd 75).drop 30) = true := by decide +kernel
theorem zk_75_60 : zokN 75 30 ((cd 75).drop 60) = true := by decide +kernel
theorem zk_75_90 : zokN 75 30 ((cd 75).drop 90) = true := by decide +kernel
theorem zk_75_120 : zokN 75 30 ((cd 75).drop 120) = true := by decide +kernel
theorem zk_75_150 : zokN 75 30 ((cd 75).drop 150) = true := by decide +kernel
theorem zk_75 : zokL 75 (cd 75) = true := by
  have h180 : zokL 75 ((cd 75).drop 180) = true := rfl
  have h150 : zokL 75 ((cd 75).drop 150) = true := zokN_join 30 _ zk_75_150 (by rw [List.drop_drop]; exact h180)
  have h120 : zokL 75 ((cd 75).drop 120) = true := zokN_join 30 _ zk_75_120 (by rw [List.drop_drop]; exact h150)
  have h90 : zokL 75 ((cd 75).drop 90) = true := zokN_join 30 _ zk_75_90 (by rw [List.drop_drop]; exact h120)
  have h60 : zokL 75 ((cd 75).drop 60) = true := zokN_join 30 _ zk_75_60 (by rw [List.drop_drop]; exact h90)
  have h30 : zokL 75 ((cd 75).drop 30) = true := zokN_join 30 _ zk_75_30 (by rw [List.drop_drop]; exact h60)
  have h0 : zokL 75 ((cd 75).drop 0) = true := zokN_join 30 _ zk_75_0 (by rw [List.drop_drop]; exact h30)
  exact h0
theorem zk_76_0 : zokN 76 30 ((cd 76).drop 0) = true := by decide +kernel
theorem zk_76 : zokL 76 (cd 76) = true := by
  have h30 : zokL 76 ((cd 76).drop 30) = true := rfl
  have h0 : zokL 76 ((cd 76).drop 0) = true := zokN_join 30 _ zk_76_0 (by rw [List.drop_drop]; exact h30)
  exact h0
theorem zk_77_0 : zokN 77 30 ((cd 77).drop 0) = true := by decide +kernel
theorem zk_77 : zokL 77 (cd 77) = true := by
  have h30 : zokL 77 ((cd 77).drop 30) = true := rfl
  have h0 : zokL 77 ((cd 77).drop 0) = true := zokN_join 30 _ zk_77_0 (by rw [List.drop_drop]; exact h30)
  exact h0
theorem zk_78_0 : zokN 78 30 ((cd 78).drop 0) = true := by decide +kernel
theorem zk_78 : zokL 78 (cd 78) = true := by
  have h30 : zokL 78 ((cd 78).drop 30) = true := rfl
  have h0 : zokL 78 ((cd 78).drop 0) = true := zokN_join 30 _ zk_78_0 (by rw [List.drop_drop]; exact h30)
  exact h0
theorem zk_79_0 : zokN 79 30 ((cd 79).drop 0) = true := by decide +kernel
theorem zk_79 : zokL 79 (cd 79) = true := by
  have h30 : zokL 79 ((cd 79).drop 30) = true := rfl
  have h0 : zokL 79 ((cd 79).drop 0) = true := zokN_join 30 _ zk_79_0 (by rw [List.drop_drop]; exact h30)
  exact h0
theorem zk_80_0 : zokN 80 30 ((cd 80).drop 0) = true := by decide +kernel
theorem zk_80 : zokL 80 (cd 80) = true := by
  have h30 : zokL 80 ((cd 80).drop 30) = true := rfl
  have h0 : zokL 80 ((cd 80).drop 0) = true := zokN_join 30 _ zk_80_0 (by rw [List.drop_drop]; exact h30)
  exact h0
theorem zk_81_0 : zokN 81 30 ((cd 81).drop 0) = true := by decide +kernel
theorem zk_81 : zokL 81 (cd 81) = true := by
  have h30 : zokL 81 ((cd 81).drop 30) = true := rfl
  have h0 : zokL 81 ((cd 81).drop 0) = true := zokN_join 30 _ zk_81_0 (by rw [List.drop_drop]; exact h30)
  exact h0
theorem zk_82_0 : zokN 82 30 ((cd 82).drop 0) = true := by decide +kernel
theorem zk_82_30 : zokN 82 30 ((cd 82).drop 30) = true := by decide +kernel
theorem zk_82_60 : zokN 82 30 ((cd 82).drop 60) = true := by decide +kernel
theorem zk_82 : zokL 82 (cd 82) = true := by
  have h90 : zokL 82 ((cd 82).drop 90) = true := rfl
  have h60 : zokL 82 ((cd 82).drop 60) = true := zokN_join 30 _ zk_82_60 (by rw [List.drop_drop]; exact h90)
  have h30 : zokL 82 ((cd 82).drop 30) = true := zokN_join 30 _ zk_82_30 (by rw [List.drop_drop]; exact h60)
  have h0 : zokL 82 ((cd 82).drop 0) = true := zokN_join 30 _ zk_82_0 (by rw [List.drop_drop]; exact h30)
  exact h0
theorem zk_83_0 : zokN 83 30 ((cd 83).drop 0) = true := by decide +kernel
theorem zk_83 : zokL 83 (cd 83) = true := by
  have h30 : zokL 83 ((cd 83).drop 30) = true := rfl
  have h0 : zokL 83 ((cd 83).drop 0) = true := zokN_join 30 _ zk_83_0 (by rw [List.drop_drop]; exact h30)
  exact h0
theorem zk_84_0 : zokN 84 30 ((cd 84).drop 0) = true := by decide +kernel
theorem zk_84_30 : zokN 84 30 ((cd 84).drop 30) = true := by decide +kernel
theorem zk_84_60 : zokN 84 30 ((cd 84).drop 60) = true := by decide +kernel
theorem zk_84 : zokL 84 (cd 84) = true := by
  have h90 : zokL 84 ((cd 84).drop 90) = true := rfl
  have h60 : zokL 84 ((cd 84).drop 60) = true := zokN_join 30 _ zk_84_60 (by rw [List.drop_drop]; exact h90)
  have h30 : zokL 84 ((cd 84).drop 30) = true := zokN_join 30 _ zk_84_30 (by rw [List.drop_drop]; exact h60)
  have h0 : zokL 84 ((cd 84).drop 0) = true := zokN_join 30 _ zk_84_0 (by rw [List.drop_drop]; exact h30)
  exact h0
theorem zk_85_0 : zokN 85 30 ((cd 85).drop 0) = true := by decide +kernel
theorem zk_85 : zokL 85 (cd 85) = true := by
  have h30 : zokL 85 ((cd 85).drop 30) = true := rfl
  have h0 : zokL 85 ((cd 85).drop 0) = true := zokN_join 30 _ zk_85_0 (by rw [List.drop_drop]; exact h30)
  exact h0
theorem zk_86_0 : zokN 86 30 ((cd 86).drop 0) = true := by decide +kernel
theorem zk_86 : zokL 86 (cd 86) = true := by
  have h30 : zokL 86 ((cd 86).drop 30) = true := rfl
  have h0 : zokL 86 ((cd 86).drop 0) = true := zokN_join 30 _ zk_86_0 (by rw [List.drop_drop]; exact h30)
  exact h0
theorem zk_87_0 : zokN 87 30 ((cd 87).drop 0) = true := by decide +kernel
theorem zk_87 : zokL 87 (cd 87) = true := by
  have h30 : zokL 87 ((cd 87).drop 30) = true := rfl
  have h0 : zokL 87 ((cd 87).drop 0) = true := zokN_join 30 _ zk_87_0 (by rw [List.drop_drop]; exact h30)
  exact h0
theorem zk_88_0 : zokN 88 30 ((cd 88).drop 0) = true := by decide +kernel
theorem zk_88_30 : zokN 88 30 ((cd 88).drop 30) = true := by decide +kernel
theorem zk_88 : zokL 88 (cd 88) = true := by
  have h60 : zokL 88 ((cd 88).drop 60) = true := rfl
  have h30 : zokL 88 ((cd 88).drop 30) = true := zokN_join 30 _ zk_88_30 (by rw [List.drop_drop]; exact h60)
  have h0 : zokL 88 ((cd 88).drop 0) = true := zokN_join 30 _ zk_88_0 (by rw [List.drop_drop]; exact h30)
  exact h0
theorem zk_89_0 : zokN 89 30 ((cd 89).drop 0) = true := by decide +kernel
theorem zk_89_30 : zokN 89 30 ((cd 89).drop 30) = true := by decide +kernel
theorem zk_89 : zokL 89 (cd 89) = true := by
  have h60 : zokL 89 ((cd 89).drop 60) = true := rfl
  have h30 : zokL 89 ((cd 89).drop 30) = true := zokN_join 30 _ zk_89_30 (by rw [List.drop_drop]; exact h60)
  have h0 : zokL 89 ((cd 89).drop 0) = true := zokN_join 30 _ zk_89_0 (by rw [List.drop_drop]; exact h30)
  exact h0
theorem zk_90_0 : zokN 90 30 ((cd 90).drop 0) = true := by decide +kernel
theorem zk_90 : zokL 90 (cd 90) = true := by
  have h30 : zokL 90 ((cd 90).drop 30) = true := rfl
  have h0 : zokL 90 ((cd 90).drop 0) = true := zokN_join 30 _ zk_90_0 (by rw [List.drop_drop]; exact h30)
  exact h0
theorem zk_91_0 : zokN 91 30 ((cd 91).drop 0) = true := by decide +kernel
theorem zk_91 : zokL 91 (cd 91) = true := by
  have h30 : zokL 91 ((cd 91).drop 30) = true := rfl
  have h0 : zokL 91 ((cd 91).drop 0) = true := zokN_join 30 _ zk_91_0 (by rw [List.drop_drop]; exact h30)
  exact h0
theorem zk_92_0 : zokN 92 30 ((cd 92).drop 0) = true := by decide +kernel
theorem zk_92 : zokL 92 (cd 92) = true := by
  have h30 : zokL 92 ((cd 92).drop 30) = true := rfl
  have h0 : zokL 92 ((cd 92).drop 0) = true := zokN_join 30 _ zk_92_0 (by rw [List.drop_drop]; exact h30)
  exact h0
theorem zk_93_0 : zokN 93 30 ((cd 93).drop 0) = true := by decide +kernel
theorem zk_93 : zokL 93 (cd 93) = true := by
  have h30 : zokL 93 ((cd 93).drop 30) = true := rfl
  have h0 : zokL 93 ((cd 93).drop 0) = true := zokN_join 30 _ zk_93_0 (by rw [List.drop_drop]; exact h30)
  exact h0
theorem zk_94_0 : zokN 94 30 ((cd 94).drop 0) = true := by decide +kernel
theorem zk_94 : zokL 94 (cd 94) = true := by
  have h30 : zokL 94 ((cd 94).drop 30) = true := rfl
  have h0 : zokL 94 ((cd 94).drop 0) = true := zokN_join 30 _ zk_94_0 (by rw [List.drop_drop]; exact h30)
  exact h0
theorem zk_95_0 : zokN 95 30 ((cd 95).drop 0) = true := by decide +kernel
theorem zk_95 : zokL 95 (cd 95) = true := by
  have h30 : zokL 95 ((cd 95).drop 30) = true := rfl
  have h0 : zokL 95 ((cd 95).drop 0) = true := zokN_join 30 _ zk_95_0 (by rw [List.drop_drop]; exact h30)
  exact h0
theorem zk_96_0 : zokN 96 30 ((cd 96).drop 0) = true := by decide +kernel
theorem zk_96_30 : zokN 96 30 ((cd 96).drop 30) = true := by decide +kernel
theorem zk_96 : zokL 96 (cd 96) = true := by
  have h60 : zokL 96 ((cd 96).drop 60) = true := rfl
  have h30 : zokL 96 ((cd 96).drop 30) = true := zokN_join 30 _ zk_96_30 (by rw [List.drop_drop]; exact h60)
  have h0 : zokL 96 ((cd 96).drop 0) = true := zokN_join 30 _ zk_96_0 (by rw [List.drop_drop]; exact h30)
  exact h0
theorem zk_97_0 : zokN 97 30 ((cd 97).drop 0) = true := by decide +kernel
theorem zk_97 : zokL 97 (cd 97) = true := by
  have h30 : zokL 97 ((cd 97).drop 30) = true := rfl
  have h0 : zokL 97 ((cd 97).drop 0) = true := zokN_join 30 _ zk_97_0 (by rw [List.drop_drop]; exact h30)
  exact h0
theorem zk_98_0 : zokN 98 30 ((cd 98).drop 0) = true := by decide +kernel
theorem zk_98 : zokL 98 (cd 98) = true := by
  have h30 : zokL 98 ((cd 98).drop 30) = true := rfl
  have h0 : zokL 98 ((cd 98).drop 0) = true := zokN_join 30 _ zk_98_0 (by rw [List.drop_drop]; exact h30)
  exact h0
theorem zk_99_0 : zokN 99 30 ((cd 99).drop 0) = true := by decide +kernel
theorem zk_99 : zokL 99 (cd 99) = true := by
  have h30 : zokL 99 ((cd 99).drop 30) = true := rfl
  have h0 : zokL 99 ((cd 99).drop 0) = true := zokN_join 30 _ zk_99_0 (by rw [List.drop_drop]; exact h30)
  exact h0
theorem zk_100_0 : zokN 100 30 ((cd 100).drop 0) = true := by decide +kernel
theorem zk_100_30 : zokN 100 30 ((cd 100).drop 30) = true := by decide +kernel
theorem zk_100 : zokL 100 (cd 100) = true := by
  have h60 : zokL 100 ((cd 100).drop 60) = true := rfl
  have h30 : zokL 100 ((cd 100).drop 30) = true := zokN_join 30 _ zk_100_30 (by rw [List.drop_drop]; exact h60)
  have h0 : zokL 100 ((cd 100).drop 0) = true := zokN_join 30 _ zk_100_0 (by rw [List.drop_drop]; exact h30)
  exact h0
theorem zk_101_0 : zokN 101 30 ((cd 101).drop 0) = true := by decide +kernel
theorem zk_101_30 : zokN 101 30 ((cd 101).drop 30) = true := by decide +kernel
theorem zk_101 : zokL 101 (cd 101) = true := by
  have h60 : zokL 101 ((cd 101).drop 60) = true := rfl
  have h30 : zokL 101 ((cd 101).drop 30) = true := zokN_join 30 _ zk_101_30 (by rw [List.drop_drop]; exact h60)
  have h0 : zokL 101 ((cd 101).drop 0) = true := zokN_join 30 _ zk_101_0 (by rw [List.drop_drop]; exact h30)
  exact h0
theorem zk_102_0 : zokN 102 30 ((cd 102).drop 0) = true := by decide +kernel
theorem zk_102 : zokL 102 (cd 102) = true := by
  have h30 : zokL 102 ((cd 102).drop 30) = true := rfl
  have h0 : zokL 102 ((cd 102).drop 0) = true := zokN_join 30 _ zk_102_0 (by rw [List.drop_drop]; exact h30)
  exact h0
theorem zk_103_0 : zokN 103 30 ((cd 103).drop 0) = true := by decide +kernel
theorem zk_103 : zokL 103 (cd 103) = true := by
  have h30 : zokL 103 ((cd 103).drop 30) = true := rfl
  have h0 : zokL 103 ((cd 103).drop 0) = true := zokN_join 30 _ zk_103_0 (by rw [List.drop_drop]; exact h30)
  exact h0
theorem zk_104_0 : zokN 104 30 ((cd 104).drop 0) = true := by decide +kernel
theorem zk_104 : zokL 104 (cd 104) = true := by
  have h30 : zokL 104 ((cd 104).drop 30) = true := rfl
  have h0 : zokL 104 ((cd 104).drop 0) = true := zokN_join 30 _ zk_104_0 (by rw [List.drop_drop]; exact h30)
  exact h0
theorem zk_105_0 : zokN 105 30 ((cd 105).drop 0) = true := by decide +kernel
theorem zk_105 : zokL 105 (cd 105) = true := by
  have h30 : zokL 105 ((cd 105).drop 30) = true := rfl
  have h0 : zokL 105 ((cd 105).drop 0) = true := zokN_join 30 _ zk_105_0 (by rw [List.drop_drop]; exact h30)
  exact h0
theorem zk_106_0 : zokN 106 30 ((cd 106).drop 0) = true := by decide +kernel
theorem zk_106 : zokL 106 (cd 106) = true := by
  have h30 : zokL 106 ((cd 106).drop 30) = true := rfl
  have h0 : zokL 106 ((cd 106).drop 0) = true := zokN_join 30 _ zk_106_0 (by rw [List.drop_drop]; exact h30)
  exact h0
theorem zk_107_0 : zokN 107 30 ((cd 107).drop 0) = true := by decide +kernel
theorem zk_107 : zokL 107 (cd 107) = true := by
  have h30 : zokL 107 ((cd 107).drop 30) = true := rfl
  have h0 : zokL 107 ((cd 107).drop 0) = true := zokN_join 30 _ zk_107_0 (by rw [List.drop_drop]; exact h30)
  exact h0
theorem zk_108_0 : zokN 108 30 ((cd 108).drop 0) = true := by decide +kernel
theorem zk_108 : zokL 108 (cd 108) = true := by
  have h30 : zokL 108 ((cd 108).drop 30) = true := rfl
  have h0 : zokL 108 ((cd 108).drop 0) = true := zokN_join 30 _ zk_108_0 (by rw [List.drop_drop]; exact h30)
  exact h0
theorem zk_109_0 : zokN 109 30 ((cd 109).drop 0) = true := by decide +kernel
theorem zk_109_30 : zokN 109 30 ((cd 109).drop 30) = true := by decide +kernel
theorem zk_109_60 : zokN 109 30 ((cd 109).drop 60) = true := by decide +kernel
theorem zk_109_90 : zokN 109 30 ((cd 109).drop 90) = true := by decide +kernel
theorem zk_109_120 : zokN 109 30 ((cd 109).drop 120) = true := by decide +kernel
theorem zk_109_150 : zokN 109 30 ((cd 109).drop 150) = true := by decide +kernel
theorem zk_109_180 : zokN 109 30 ((cd 109).drop 180) = true := by decide +kernel
theorem zk_109 : zokL 109 (cd 109) = true := by
  have h210 : zokL 109 ((cd 109).drop 210) = true := rfl
  have h180 : zokL 109 ((cd 109).drop 180) = true := zokN_join 30 _ zk_109_180 (by rw [List.drop_drop]; exact h210)
  have h150 : zokL 109 ((cd 109).drop 150) = true := zokN_join 30 _ zk_109_150 (by rw [List.drop_drop]; exact h180)
  have h120 : zokL 109 ((cd 109).drop 120) = true := zokN_join 30 _ zk_109_120 (by rw [List.drop_drop]; exact h150)
  have h90 : zokL 109 ((cd 109).drop 90) = true := zokN_join 30 _ zk_109_90 (by rw [List.drop_drop]; exact h120)
  have h60 : zokL 109 ((cd 109).drop 60) = true := zokN_join 30 _ zk_109_60 (by rw [List.drop_drop]; exact h90)
  have h30 : zokL 109 ((cd 109).drop 30) = true := zokN_join 30 _ zk_109_30 (by rw [List.drop_drop]; exact h60)
  have h0 : zokL 109 ((cd 109).drop 0) = true := zokN_join 30 _ zk_109_0 (by rw [List.drop_drop]; exact h30)
  exact h0
theorem zk_110_0 : zokN 110 30 ((cd 110).drop 0) = true := by decide +kernel
theorem zk_110_30 : zokN 110 30 ((cd 110).drop 30) = true := by decide +kernel
theorem zk_110_60 : zokN 110 30 ((cd 110).drop 60) = true := by decide +kernel
theorem zk_110_90 : zokN 110 30 ((cd 110).drop 90) = true := by decide +kernel
theorem zk_110_120 : zokN 110 30 ((cd 110).drop 120) = true := by decide +kernel
theorem zk_110 : zokL 110 (cd 110) = true := by
  have h150 : zokL 110 ((cd 110).drop 150) = true := rfl
  have h120 : zokL 110 ((cd 110).drop 120) = true := zokN_join 30 _ zk_110_120 (by rw [List.drop_drop]; exact h150)
  have h90 : zokL 110 ((cd 110).drop 90) = true := zokN_join 30 _ zk_110_90 (by rw [List.drop_drop]; exact h120)
  have h60 : zokL 110 ((cd 110).drop 60) = true := zokN_join 30 _ zk_110_60 (by rw [List.drop_drop]; exact h90)
  have h30 : zokL 110 ((cd 110).drop 30) = true := zokN_join 30 _ zk_110_30 (by rw [List.drop_drop]; exact h60)
  have h0 : zokL 110 ((cd 110).drop 0) = true := zokN_join 30 _ zk_110_0 (by rw [List.drop_drop]; exact h30)
  exact h0
theorem zk_111_0 : zokN 111 30 ((cd 111).drop 0) = true := by decide +kernel
theorem zk_111 : zokL 111 (cd 111) = true := by
  have h30 : zokL 111 ((cd 111).drop 30) = true := rfl
  have h0 : zokL 111 ((cd 111).drop 0) = true := zokN_join 30 _ zk_111_0 (by rw [List.drop_drop]; exact h30)
  exact h0
theorem zk_112_0 : zokN 112 30 ((cd 112).drop 0) = true := by decide +kernel
theorem zk_112_30 : zokN 112 30 ((cd 112).drop 30) = true := by decide +kernel
theorem zk_112 : zokL 112 (cd 112) = true := by
  have h60 : zokL 112 ((cd 112).drop 60) = true := rfl
  have h30 : zokL 112 ((cd 112).drop 30) = true := zokN_join 30 _ zk_112_30 (by rw [List.drop_drop]; exact h60)
  have h0 : zokL 112 ((cd 112).drop 0) = true := zokN_join 30 _ zk_112_0 (by rw [List.drop_drop]; exact h30)
  exact h0
theorem zk_113_0 : zokN 113 30 ((cd 113).drop 0) = true := by decide +kernel
theorem zk_113 : zokL 113 (cd 113) = true := by
  have h30 : zokL 113 ((cd 113).drop 30) = true := rfl
  have h0 : zokL 113 ((cd 113).drop 0) = true := zokN_join 30 _ zk_113_0 (by rw [List.drop_drop]; exact h30)
  exact h0
theorem zk_114_0 : zokN 114 30 ((cd 114).drop 0) = true := by decide +kernel
theorem zk_114_30 : zokN 114 30 ((cd 114).drop 30) = true := by decide +kernel
theorem zk_114 : zokL 114 (cd 114) = true := by
  have h60 : zokL 114 ((cd 114).drop 60) = true := rfl
  have h30 : zokL 114 ((cd 114).drop 30) = true := zokN_join 30 _ zk_114_30 (by rw [List.drop_drop]; exact h60)
  have h0 : zokL 114 ((cd 114).drop 0) = true := zokN_join 30 _ zk_114_0 (by rw [List.drop_drop]; exact h30)
  exact h0
theorem zk_115_0 : zokN 115 30 ((cd 115).drop 0) = true := by decide +kernel
theorem zk_115 : zokL 115 (cd 115) = true := by
  have h30 : zokL 115 ((cd 115).drop 30) = true := rfl
  have h0 : zokL 115 ((cd 115).drop 0) = true := zokN_join 30 _ zk_115_0 (by rw [List.drop_drop]; exact h30)
  exact h0
theorem zk_116_0 : zokN 116 30 ((cd 116).drop 0) = true := by decide +kernel
theorem zk_116_30 : zokN 116 30 ((cd 116).drop 30) = true := by decide +kernel
theorem zk_116 : zokL 116 (cd 116) = true := by
  have h60 : zokL 116 ((cd 116).drop 60) = true := rfl
  have h30 : zokL 116 ((cd 116).drop 30) = true := zokN_join 30 _ zk_116_30 (by rw [List.drop_drop]; exact h60)
  have h0 : zokL 116 ((cd 116).drop 0) = true := zokN_join 30 _ zk_116_0 (by rw [List.drop_drop]; exact h30)
  exact h0
theorem zk_117_0 : zokN 117 30 ((cd 117).drop 0) = true := by decide +kernel
theorem zk_117_30 : zokN 117 30 ((cd 117).drop 30) = true := by decide +kernel
theorem zk_117_60 : zokN 117 30 ((cd 117).drop 60) = true := by decide +kernel
theorem zk_117 : zokL 117 (cd 117) = true := by
  have h90 : zokL 117 ((cd 117).drop 90) = true := rfl
  have h60 : zokL 117 ((cd 117).drop 60) = true := zokN_join 30 _ zk_117_60 (by rw [List.drop_drop]; exact h90)
  have h30 : zokL 117 ((cd 117).drop 30) = true := zokN_join 30 _ zk_117_30 (by rw [List.drop_drop]; exact h60)
  have h0 : zokL 117 ((cd 117).drop 0) = true := zokN_join 30 _ zk_117_0 (by rw [List.drop_drop]; exact h30)
  exact h0
theorem zk_118_0 : zokN 118 30 ((cd 118).drop 0) = true := by decide +kernel
theorem zk_118 : zokL 118 (cd 118) = true := by
  have h30 : zokL 118 ((cd 118).drop 30) = true := rfl
  have h0 : zokL 118 ((cd 118).drop 0) = true := zokN_join 30 _ zk_118_0 (by rw [List.drop_drop]; exact h30)
  exact h0
theorem zk_119_0 : zokN 119 30 ((cd 119).drop 0) = true := by decide +kernel
theorem zk_119 : zokL 119 (cd 119) = true := by
  have h30 : zokL 119 ((cd 119).drop 30) = true := rfl
  have h0 : zokL 119 ((cd 119).drop 0) = true := zokN_join 30 _ zk_119_0 (by rw [List.drop_drop]; exact h30)
  exact h0
theorem zk_120_0 : zokN 120 30 ((cd 120).drop 0) = true := by decide +kernel
theorem zk_120_30 : zokN 120 30 ((cd 120).drop 30) = true := by decide +kernel
theorem zk_120_60 : zokN 120 30 ((cd 120).drop 60) = true := by decide +kernel
theorem zk_120 : zokL 120 (cd 120) = true := by
  have h90 : zokL 120 ((cd 120).drop 90) = true := rfl
  have h60 : zokL 120 ((cd 120).drop 60) = true := zokN_join 30 _ zk_120_60 (by rw [List.drop_drop]; exact h90)
  have h30 : zokL 120 ((cd 120).drop 30) = true := zokN_join 30 _ zk_120_30 (by rw [List.drop_drop]; exact h60)
  have h0 : zokL 120 ((cd 120).drop 0) = true := zokN_join 30 _ zk_120_0 (by rw [List.drop_drop]; exact h30)
  exact h0
theorem zk_121_0 : zokN 121 30 ((cd 121).drop 0) = true := by decide +kernel
theorem zk_121 : zokL 121 (cd 121) = true := by
  have h30 : zokL 121 ((cd 121).drop 30) = true := rfl
  have h0 : zokL 121 ((cd 121).drop 0) = true := zokN_join 30 _ zk_121_0 (by rw [List.drop_drop]; exact h30)
  exact h0
