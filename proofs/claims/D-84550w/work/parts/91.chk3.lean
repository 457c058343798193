set_option maxRecDepth 100000
set_option maxHeartbeats 4000000
theorem zk_122_0 : zokN 122 30 ((cd 122).drop 0) = true := by decide +kernel
theorem zk_122_30 : zokN 122 30 ((cd 122).drop 30) = true := by decide +kernel
theorem zk_122_60 : zokN 122 30 ((cd 122).drop 60) = true := by decide +kernel
theorem zk_122 : zokL 122 (cd 122) = true := by
  have h90 : zokL 122 ((cd 122).drop 90) = true := rfl
  have h60 : zokL 122 ((cd 122).drop 60) = true := zokN_join 30 _ zk_122_60 (by rw [List.drop_drop]; exact h90)
  have h30 : zokL 122 ((cd 122).drop 30) = true := zokN_join 30 _ zk_122_30 (by rw [List.drop_drop]; exact h60)
  have h0 : zokL 122 ((cd 122).drop 0) = true := zokN_join 30 _ zk_122_0 (by rw [List.drop_drop]; exact h30)
  exact h0
theorem zk_123_0 : zokN 123 30 ((cd 123).drop 0) = true := by decide +kernel
theorem zk_123_30 : zokN 123 30 ((cd 123).drop 30) = true := by decide +kernel
theorem zk_123 : zokL 123 (cd 123) = true := by
  have h60 : zokL 123 ((cd 123).drop 60) = true := rfl
  have h30 : zokL 123 ((cd 123).drop 30) = true := zokN_join 30 _ zk_123_30 (by rw [List.drop_drop]; exact h60)
  have h0 : zokL 123 ((cd 123).drop 0) = true := zokN_join 30 _ zk_123_0 (by rw [List.drop_drop]; exact h30)
  exact h0
theorem zk_124_0 : zokN 124 30 ((cd 124).drop 0) = true := by decide +kernel
theorem zk_124 : zokL 124 (cd 124) = true := by
  have h30 : zokL 124 ((cd 124).drop 30) = true := rfl
  have h0 : zokL 124 ((cd 124).drop 0) = true := zokN_join 30 _ zk_124_0 (by rw [List.drop_drop]; exact h30)
  exact h0
theorem zk_125_0 : zokN 125 30 ((cd 125).drop 0) = true := by decide +kernel
theorem zk_125 : zokL 125 (cd 125) = true := by
  have h30 : zokL 125 ((cd 125).drop 30) = true := rfl
  have h0 : zokL 125 ((cd 125).drop 0) = true := zokN_join 30 _ zk_125_0 (by rw [List.drop_drop]; exact h30)
  exact h0
theorem zk_126_0 : zokN 126 30 ((cd 126).drop 0) = true := by decide +kernel
theorem zk_126 : zokL 126 (cd 126) = true := by
  have h30 : zokL 126 ((cd 126).drop 30) = true := rfl
  have h0 : zokL 126 ((cd 126).drop 0) = true := zokN_join 30 _ zk_126_0 (by rw [List.drop_drop]; exact h30)
  exact h0
theorem zk_127_0 : zokN 127 30 ((cd 127).drop 0) = true := by decide +kernel
theorem zk_127 : zokL 127 (cd 127) = true := by
  have h30 : zokL 127 ((cd 127).drop 30) = true := rfl
  have h0 : zokL 127 ((cd 127).drop 0) = true := zokN_join 30 _ zk_127_0 (by rw [List.drop_drop]; exact h30)
  exact h0
theorem zk_128_0 : zokN 128 30 ((cd 128).drop 0) = true := by decide +kernel
theorem zk_128_30 : zokN 128 30 ((cd 128).drop 30) = true := by decide +kernel
theorem zk_128_60 : zokN 128 30 ((cd 128).drop 60) = true := by decide +kernel
theorem zk_128 : zokL 128 (cd 128) = true := by
  have h90 : zokL 128 ((cd 128).drop 90) = true := rfl
  have h60 : zokL 128 ((cd 128).drop 60) = true := zokN_join 30 _ zk_128_60 (by rw [List.drop_drop]; exact h90)
  have h30 : zokL 128 ((cd 128).drop 30) = true := zokN_join 30 _ zk_128_30 (by rw [List.drop_drop]; exact h60)
  have h0 : zokL 128 ((cd 128).drop 0) = true := zokN_join 30 _ zk_128_0 (by rw [List.drop_drop]; exact h30)
  exact h0
theorem zk_129_0 : zokN 129 30 ((cd 129).drop 0) = true := by decide +kernel
theorem zk_129 : zokL 129 (cd 129) = true := by
  have h30 : zokL 129 ((cd 129).drop 30) = true := rfl
  have h0 : zokL 129 ((cd 129).drop 0) = true := zokN_join 30 _ zk_129_0 (by rw [List.drop_drop]; exact h30)
  exact h0
theorem zk_130_0 : zokN 130 30 ((cd 130).drop 0) = true := by decide +kernel
theorem zk_130_30 : zokN 130 30 ((cd 130).drop 30) = true := by decide +kernel
theorem zk_130_60 : zokN 130 30 ((cd 130).drop 60) = true := by decide +kernel
theorem zk_130_90 : zokN 130 30 ((cd 130).drop 90) = true := by decide +kernel
theorem zk_130_120 : zokN 130 30 ((cd 130).drop 120) = true := by decide +kernel
theorem zk_130 : zokL 130 (cd 130) = true := by
  have h150 : zokL 130 ((cd 130).drop 150) = true := rfl
  have h120 : zokL 130 ((cd 130).drop 120) = true := zokN_join 30 _ zk_130_120 (by rw [List.drop_drop]; exact h150)
  have h90 : zokL 130 ((cd 130).drop 90) = true := zokN_join 30 _ zk_130_90 (by rw [List.drop_drop]; exact h120)
  have h60 : zokL 130 ((cd 130).drop 60) = true := zokN_join 30 _ zk_130_60 (by rw [List.drop_drop]; exact h90)
  have h30 : zokL 130 ((cd 130).drop 30) = true := zokN_join 30 _ zk_130_30 (by rw [List.drop_drop]; exact h60)
  have h0 : zokL 130 ((cd 130).drop 0) = true := zokN_join 30 _ zk_130_0 (by rw [List.drop_drop]; exact h30)
  exact h0
theorem zk_131_0 : zokN 131 30 ((cd 131).drop 0) = true := by decide +kernel
theorem zk_131_30 : zokN 131 30 ((cd 131).drop 30) = true := by decide +kernel
theorem zk_131_60 : zokN 131 30 ((cd 131).drop 60) = true := by decide +kernel
theorem zk_131_90 : zokN 131 30 ((cd 131).drop 90) = true := by decide +kernel
theorem zk_131_120 : zokN 131 30 ((cd 131).drop 120) = true := by decide +kernel
theorem zk_131 : zokL 131 (cd 131) = true := by
  have h150 : zokL 131 ((cd 131).drop 150) = true := rfl
  have h120 : zokL 131 ((cd 131).drop 120) = true := zokN_join 30 _ zk_131_120 (by rw [List.drop_drop]; exact h150)
  have h90 : zokL 131 ((cd 131).drop 90) = true := zokN_join 30 _ zk_131_90 (by rw [List.drop_drop]; exact h120)
  have h60 : zokL 131 ((cd 131).drop 60) = true := zokN_join 30 _ zk_131_60 (by rw [List.drop_drop]; exact h90)
  have h30 : zokL 131 ((cd 131).drop 30) = true := zokN_join 30 _ zk_131_30 (by rw [List.drop_drop]; exact h60)
  have h0 : zokL 131 ((cd 131).drop 0) = true := zokN_join 30 _ zk_131_0 (by rw [List.drop_drop]; exact h30)
  exact h0
theorem zk_132_0 : zokN 132 30 ((cd 132).drop 0) = true := by decide +kernel
theorem zk_132_30 : zokN 132 30 ((cd 132).drop 30) = true := by decide +kernel
theorem zk_132_60 : zokN 132 30 ((cd 132).drop 60) = true := by decide +kernel
theorem zk_132_90 : zokN 132 30 ((cd 132).drop 90) = true := by decide +kernel
theorem zk_132 : zokL 132 (cd 132) = true := by
  have h120 : zokL 132 ((cd 132).drop 120) = true := rfl
  have h90 : zokL 132 ((cd 132).drop 90) = true := zokN_join 30 _ zk_132_90 (by rw [List.drop_drop]; exact h120)
  have h60 : zokL 132 ((cd 132).drop 60) = true := zokN_join 30 _ zk_132_60 (by rw [List.drop_drop]; exact h90)
  have h30 : zokL 132 ((cd 132).drop 30) = true := zokN_join 30 _ zk_132_30 (by rw [List.drop_drop]; exact h60)
  have h0 : zokL 132 ((cd 132).drop 0) = true := zokN_join 30 _ zk_132_0 (by rw [List.drop_drop]; exact h30)
  exact h0
theorem zk_133_0 : zokN 133 30 ((cd 133).drop 0) = true := by decide +kernel
theorem zk_133 : zokL 133 (cd 133) = true := by
  have h30 : zokL 133 ((cd 133).drop 30) = true := rfl
  have h0 : zokL 133 ((cd 133).drop 0) = true := zokN_join 30 _ zk_133_0 (by rw [List.drop_drop]; exact h30)
  exact h0
theorem zk_134_0 : zokN 134 30 ((cd 134).drop 0) = true := by decide +kernel
theorem zk_134_30 : zokN 134 30 ((cd 134).drop 30) = true := by decide +kernel
theorem zk_134 : zokL 134 (cd 134) = true := by
  have h60 : zokL 134 ((cd 134).drop 60) = true := rfl
  have h30 : zokL 134 ((cd 134).drop 30) = true := zokN_join 30 _ zk_134_30 (by rw [List.drop_drop]; exact h60)
  have h0 : zokL 134 ((cd 134).drop 0) = true := zokN_join 30 _ zk_134_0 (by rw [List.drop_drop]; exact h30)
  exact h0
theorem zk_135_0 : zokN 135 30 ((cd 135).drop 0) = true := by decide +kernel
theorem zk_135_30 : zokN 135 30 ((cd 135).drop 30) = true := by decide +kernel
theorem zk_135_60 : zokN 135 30 ((cd 135).drop 60) = true := by decide +kernel
theorem zk_135_90 : zokN 135 30 ((cd 135).drop 90) = true := by decide +kernel
theorem zk_135_120 : zokN 135 30 ((cd 135).drop 120) = true := by decide +kernel
theorem zk_135_150 : zokN 135 30 ((cd 135).drop 150) = true := by decide +kernel
theorem zk_135_180 : zokN 135 30 ((cd 135).drop 180) = true := by decide +kernel
theorem zk_135 : zokL 135 (cd 135) = true := by
  have h210 : zokL 135 ((cd 135).drop 210) = true := rfl
  have h180 : zokL 135 ((cd 135).drop 180) = true := zokN_join 30 _ zk_135_180 (by rw [List.drop_drop]; exact h210)
  have h150 : zokL 135 ((cd 135).drop 150) = true := zokN_join 30 _ zk_135_150 (by rw [List.drop_drop]; exact h180)
  have h120 : zokL 135 ((cd 135).drop 120) = true := zokN_join 30 _ zk_135_120 (by rw [List.drop_drop]; exact h150)
  have h90 : zokL 135 ((cd 135).drop 90) = true := zokN_join 30 _ zk_135_90 (by rw [List.drop_drop]; exact h120)
  have h60 : zokL 135 ((cd 135).drop 60) = true := zokN_join 30 _ zk_135_60 (by rw [List.drop_drop]; exact h90)
  have h30 : zokL 135 ((cd 135).drop 30) = true := zokN_join 30 _ zk_135_30 (by rw [List.drop_drop]; exact h60)
  have h0 : zokL 135 ((cd 135).drop 0) = true := zokN_join 30 _ zk_135_0 (by rw [List.drop_drop]; exact h30)
  exact h0
theorem zk_136_0 : zokN 136 30 ((cd 136).drop 0) = true := by decide +kernel
theorem zk_136_30 : zokN 136 30 ((cd 136).drop 30) = true := by decide +kernel
theorem zk_136_60 : zokN 136 30 ((cd 136).drop 60) = true := by decide +kernel
theorem zk_136 : zokL 136 (cd 136) = true := by
  have h90 : zokL 136 ((cd 136).drop 90) = true := rfl
  have h60 : zokL 136 ((cd 136).drop 60) = true := zokN_join 30 _ zk_136_60 (by rw [List.drop_drop]; exact h90)
  have h30 : zokL 136 ((cd 136).drop 30) = true := zokN_join 30 _ zk_136_30 (by rw [List.drop_drop]; exact h60)
  have h0 : zokL 136 ((cd 136).drop 0) = true := zokN_join 30 _ zk_136_0 (by rw [List.drop_drop]; exact h30)
  exact h0
theorem zk_137_0 : zokN 137 30 ((cd 137).drop 0) = true := by decide +kernel
theorem zk_137_30 : zokN 137 30 ((cd 137).drop 30) = true := by decide +kernel
theorem zk_137_60 : zokN 137 30 ((cd 137).drop 60) = true := by decide +kernel
theorem zk_137 : zokL 137 (cd 137) = true := by
  have h90 : zokL 137 ((cd 137).drop 90) = true := rfl
  have h60 : zokL 137 ((cd 137).drop 60) = true := zokN_join 30 _ zk_137_60 (by rw [List.drop_drop]; exact h90)
  have h30 : zokL 137 ((cd 137).drop 30) = true := zokN_join 30 _ zk_137_30 (by rw [List.drop_drop]; exact h60)
  have h0 : zokL 137 ((cd 137).drop 0) = true := zokN_join 30 _ zk_137_0 (by rw [List.drop_drop]; exact h30)
  exact h0
theorem zk_138_0 : zokN 138 30 ((cd 138).drop 0) = true := by decide +kernel
theorem zk_138 : zokL 138 (cd 138) = true := by
  have h30 : zokL 138 ((cd 138).drop 30) = true := rfl
  have h0 : zokL 138 ((cd 138).drop 0) = true := zokN_join 30 _ zk_138_0 (by rw [List.drop_drop]; exact h30)
  exact h0
theorem zk_139_0 : zokN 139 30 ((cd 139).drop 0) = true := by decide +kernel
theorem zk_139_30 : zokN 139 30 ((cd 139).drop 30) = true := by decide +kernel
theorem zk_139_60 : zokN 139 30 ((cd 139).drop 60) = true := by decide +kernel
theorem zk_139_90 : zokN 139 30 ((cd 139).drop 90) = true := by decide +kernel
theorem zk_139 : zokL 139 (cd 139) = true := by
  have h120 : zokL 139 ((cd 139).drop 120) = true := rfl
  have h90 : zokL 139 ((cd 139).drop 90) = true := zokN_join 30 _ zk_139_90 (by rw [List.drop_drop]; exact h120)
  have h60 : zokL 139 ((cd 139).drop 60) = true := zokN_join 30 _ zk_139_60 (by rw [List.drop_drop]; exact h90)
  have h30 : zokL 139 ((cd 139).drop 30) = true := zokN_join 30 _ zk_139_30 (by rw [List.drop_drop]; exact h60)
  have h0 : zokL 139 ((cd 139).drop 0) = true := zokN_join 30 _ zk_139_0 (by rw [List.drop_drop]; exact h30)
  exact h0
theorem zk_140_0 : zokN 140 30 ((cd 140).drop 0) = true := by decide +kernel
theorem zk_140_30 : zokN 140 30 ((cd 140).drop 30) = true := by decide +kernel
theorem zk_140_60 : zokN 140 30 ((cd 140).drop 60) = true := by decide +kernel
theorem zk_140 : zokL 140 (cd 140) = true := by
  have h90 : zokL 140 ((cd 140).drop 90) = true := rfl
  have h60 : zokL 140 ((cd 140).drop 60) = true := zokN_join 30 _ zk_140_60 (by rw [List.drop_drop]; exact h90)
  have h30 : zokL 140 ((cd 140).drop 30) = true := zokN_join 30 _ zk_140_30 (by rw [List.drop_drop]; exact h60)
  have h0 : zokL 140 ((cd 140).drop 0) = true := zokN_join 30 _ zk_140_0 (by rw [List.drop_drop]; exact h30)
  exact h0
theorem zk_141_0 : zokN 141 30 ((cd 141).drop 0) = true := by decide +kernel
theorem zk_141_30 : zokN 141 30 ((cd 141).drop 30) = true := by decide +kernel
theorem zk_141_60 : zokN 141 30 ((cd 141).drop 60) = true := by decide +kernel
theorem zk_141_90 : zokN 141 30 ((cd 141).drop 90) = true := by decide +kernel
theorem zk_141_120 : zokN 141 30 ((cd 141).drop 120) = true := by decide +kernel
theorem zk_141 : zokL 141 (cd 141) = true := by
  have h150 : zokL 141 ((cd 141).drop 150) = true := rfl
  have h120 : zokL 141 ((cd 141).drop 120) = true := zokN_join 30 _ zk_141_120 (by rw [List.drop_drop]; exact h150)
  have h90 : zokL 141 ((cd 141).drop 90) = true := zokN_join 30 _ zk_141_90 (by rw [List.drop_drop]; exact h120)
  have h60 : zokL 141 ((cd 141).drop 60) = true := zokN_join 30 _ zk_141_60 (by rw [List.drop_drop]; exact h90)
  have h30 : zokL 141 ((cd 141).drop 30) = true := zokN_join 30 _ zk_141_30 (by rw [List.drop_drop]; exact h60)
  have h0 : zokL 141 ((cd 141).drop 0) = true := zokN_join 30 _ zk_141_0 (by rw [List.drop_drop]; exact h30)
  exact h0
theorem zk_142_0 : zokN 142 30 ((cd 142).drop 0) = true := by decide +kernel
theorem zk_142_30 : zokN 142 30 ((cd 142).drop 30) = true := by decide +kernel
theorem zk_142_60 : zokN 142 30 ((cd 142).drop 60) = true := by decide +kernel
theorem zk_142 : zokL 142 (cd 142) = true := by
  have h90 : zokL 142 ((cd 142).drop 90) = true := rfl
  have h60 : zokL 142 ((cd 142).drop 60) = true := zokN_join 30 _ zk_142_60 (by rw [List.drop_drop]; exact h90)
  have h30 : zokL 142 ((cd 142).drop 30) = true := zokN_join 30 _ zk_142_30 (by rw [List.drop_drop]; exact h60)
  have h0 : zokL 142 ((cd 142).drop 0) = true := zokN_join 30 _ zk_142_0 (by rw [List.drop_drop]; exact h30)
  exact h0
theorem zk_143_0 : zokN 143 30 ((cd 143).drop 0) = true := by decide +kernel
theorem zk_143_30 : zokN 143 30 ((cd 143).drop 30) = true := by decide +kernel
theorem zk_143_60 : zokN 143 30 ((cd 143).drop 60) = true := by decide +kernel
theorem zk_143_90 : zokN 143 30 ((cd 143).drop 90) = true := by decide +kernel
theorem zk_143_120 : zokN 143 30 ((cd 143).drop 120) = true := by decide +kernel
theorem zk_143 : zokL 143 (cd 143) = true := by
  have h150 : zokL 143 ((cd 143).drop 150) = true := rfl
  have h120 : zokL 143 ((cd 143).drop 120) = true := zokN_join 30 _ zk_143_120 (by rw [List.drop_drop]; exact h150)
  have h90 : zokL 143 ((cd 143).drop 90) = true := zokN_join 30 _ zk_143_90 (by rw [List.drop_drop]; exact h120)
  have h60 : zokL 143 ((cd 143).drop 60) = true := zokN_join 30 _ zk_143_60 (by rw [List.drop_drop]; exact h90)
  have h30 : zokL 143 ((cd 143).drop 30) = true := zokN_join 30 _ zk_143_30 (by rw [List.drop_drop]; exact h60)
  have h0 : zokL 143 ((cd 143).drop 0) = true := zokN_join 30 _ zk_143_0 (by rw [List.drop_drop]; exact h30)
  exact h0
theorem zk_144_0 : zokN 144 30 ((cd 144).drop 0) = true := by decide +kernel
theorem zk_144 : zokL 144 (cd 144) = true := by
  have h30 : zokL 144 ((cd 144).drop 30) = true := rfl
  have h0 : zokL 144 ((cd 144).drop 0) = true := zokN_join 30 _ zk_144_0 (by rw [List.drop_drop]; exact h30)
  exact h0
theorem zk_145_0 : zokN 145 30 ((cd 145).drop 0) = true := by decide +kernel
theorem zk_145 : zokL 145 (cd 145) = true := by
  have h30 : zokL 145 ((cd 145).drop 30) = true := rfl
  have h0 : zokL 145 ((cd 145).drop 0) = true := zokN_join 30 _ zk_145_0 (by rw [List.drop_drop]; exact h30)
  exact h0
theorem zk_146_0 : zokN 146 30 ((cd 146).drop 0) = true := by decide +kernel
theorem zk_146_30 : zokN 146 30 ((cd 146).drop 30) = true := by decide +kernel
theorem zk_146_60 : zokN 146 30 ((cd 146).drop 60) = true := by decide +kernel
theorem zk_146_90 : zokN 146 30 ((cd 146).drop 90) = true := by decide +kernel
theorem zk_146 : zokL 146 (cd 146) = true := by
  have h120 : zokL 146 ((cd 146).drop 120) = true := rfl
  have h90 : zokL 146 ((cd 146).drop 90) = true := zokN_join 30 _ zk_146_90 (by rw [List.drop_drop]; exact h120)
  have h60 : zokL 146 ((cd 146).drop 60) = true := zokN_join 30 _ zk_146_60 (by rw [List.drop_drop]; exact h90)
  have h30 : zokL 146 ((cd 146).drop 30) = true := zokN_join 30 _ zk_146_30 (by rw [List.drop_drop]; exact h60)
  have h0 : zokL 146 ((cd 146).drop 0) = true := zokN_join 30 _ zk_146_0 (by rw [List.drop_drop]; exact h30)
  exact h0
theorem zk_147_0 : zokN 147 30 ((cd 147).drop 0) = true := by decide +kernel
theorem zk_147_30 : zokN 147 30 ((cd 147).drop 30) = true := by decide +kernel
theorem zk_147_60 : zokN 147 30 ((cd 147).drop 60) = true := by decide +kernel
theorem zk_147 : zokL 147 (cd 147) = true := by
  have h90 : zokL 147 ((cd 147).drop 90) = true := rfl
  have h60 : zokL 147 ((cd 147).drop 60) = true := zokN_join 30 _ zk_147_60 (by rw [List.drop_drop]; exact h90)
  have h30 : zokL 147 ((cd 147).drop 30) = true := zokN_join 30 _ zk_147_30 (by rw [List.drop_drop]; exact h60)
  have h0 : zokL 147 ((cd 147).drop 0) = true := zokN_join 30 _ zk_147_0 (by rw [List.drop_drop]; exact h30)
  exact h0
theorem zk_148_0 : zokN 148 30 ((cd 148).drop 0) = true := by decide +kernel
theorem zk_148_30 : zokN 148 30 ((cd 148).drop 30) = true := by decide +kernel
theorem zk_148_60 : zokN 148 30 ((cd 148).drop 60) = true := by decide +kernel
theorem zk_148 : zokL 148 (cd 148) = true := by
  have h90 : zokL 148 ((cd 148).drop 90) = true := rfl
  have h60 : zokL 148 ((cd 148).drop 60) = true := zokN_join 30 _ zk_148_60 (by rw [List.drop_drop]; exact h90)
  have h30 : zokL 148 ((cd 148).drop 30) = true := zokN_join 30 _ zk_148_30 (by rw [List.drop_drop]; exact h60)
  have h0 : zokL 148 ((cd 148).drop 0) = true := zokN_join 30 _ zk_148_0 (by rw [List.drop_drop]; exact h30)
  exact h0
theorem zk_149_0 : zokN 149 30 ((cd 149).drop 0) = true := by decide +kernel
theorem zk_149 : zokL 149 (cd 149) = true := by
  have h30 : zokL 149 ((cd 149).drop 30) = true := rfl
  have h0 : zokL 149 ((cd 149).drop 0) = true := zokN_join 30 _ zk_149_0 (by rw [List.drop_drop]; exact h30)
  exact h0
theorem zk_150_0 : zokN 150 30 ((cd 150).drop 0) = true := by decide +kernel
theorem zk_150 : zokL 150 (cd 150) = true := by
  have h30 : zokL 150 ((cd 150).drop 30) = true := rfl
  have h0 : zokL 150 ((cd 150).drop 0) = true := zokN_join 30 _ zk_150_0 (by rw [List.drop_drop]; exact h30)
  exact h0
theorem zk_151_0 : zokN 151 30 ((cd 151).drop 0) = true := by decide +kernel
theorem zk_151_30 : zokN 151 30 ((cd 151).drop 30) = true := by decide +kernel
theorem zk_151_60 : zokN 151 30 ((cd 151).drop 60) = true := by decide +kernel
theorem zk_151 : zokL 151 (cd 151) = true := by
  have h90 : zokL 151 ((cd 151).drop 90) = true := rfl
  have h60 : zokL 151 ((cd 151).drop 60) = true := zokN_join 30 _ zk_151_60 (by rw [List.drop_drop]; exact h90)
  have h30 : zokL 151 ((cd 151).drop 30) = true := zokN_join 30 _ zk_151_30 (by rw [List.drop_drop]; exact h60)
  have h0 : zokL 151 ((cd 151).drop 0) = true := zokN_join 30 _ zk_151_0 (by rw [List.drop_drop]; exact h30)
  exact h0
theorem zk_152_0 : zokN 152 30 ((cd 152).drop 0) = true := by decide +kernel
theorem zk_152 : zokL 152 (cd 152) = true := by
  have h30 : zokL 152 ((cd 152).drop 30) = true := rfl
  have h0 : zokL 152 ((cd 152).drop 0) = true := zokN_join 30 _ zk_152_0 (by rw [List.drop_drop]; exact h30)
  exact h0
theorem zk_153_0 : zokN 153 30 ((cd 153).drop 0) = true := by decide +kernel
theorem zk_153_30 : zokN 153 30 ((cd 153).drop 30) = true := by decide +kernel
theorem zk_153_60 : zokN 153 30 ((cd 153).drop 60) = true := by decide +kernel
theorem zk_153_90 : zokN 153 30 ((cd 153).drop 90) = true := by decide +kernel
theorem zk_153_120 : zokN 153 30 ((cd 153).drop 120) = true := by decide +kernel
theorem zk_153_150 : zokN 153 30 ((cd 153).drop 150) = true := by decide +kernel
theorem zk_153 : zokL 153 (cd 153) = true := by
  have h180 : zokL 153 ((cd 153).drop 180) = true := rfl
  have h150 : zokL 153 ((cd 153).drop 150) = true := zokN_join 30 _ zk_153_150 (by rw [List.drop_drop]; exact h180)
  have h120 : zokL 153 ((cd 153).drop 120) = true := zokN_join 30 _ zk_153_120 (by rw [List.drop_drop]; exact h150)
  have h90 : zokL 153 ((cd 153).drop 90) = true := zokN_join 30 _ zk_153_90 (by rw [List.drop_drop]; exact h120)
  have h60 : zokL 153 ((cd 153).drop 60) = true := zokN_join 30 _ zk_153_60 (by rw [List.drop_drop]; exact h90)
  have h30 : zokL 153 ((cd 153).drop 30) = true := zokN_join 30 _ zk_153_30 (by rw [List.drop_drop]; exact h60)
  have h0 : zokL 153 ((cd 153).drop 0) = true := zokN_join 30 _ zk_153_0 (by rw [List.drop_drop]; exact h30)
  exact h0
theorem zk_154_0 : zokN 154 30 ((cd 154).drop 0) = true := by decide +kernel
theorem zk_154_30 : zokN 154 30 ((cd 154).drop 30) = true := by decide +kernel
theorem zk_154_60 : zokN 154 30 ((cd 154).drop 60) = true := by decide +kernel
theorem zk_154_90 : zokN 154 30 ((cd 154).drop 90) = true := by decide +kernel
theorem zk_154_120 : zokN 154 30 ((cd 154).drop 120) = true := by decide +kernel
theorem zk_154_150 : zokN 154 30 ((cd 154).drop 150) = true := by decide +kernel
theorem zk_154 : zokL 154 (cd 154) = true := by
  have h180 : zokL 154 ((cd 154).drop 180) = true := rfl
  have h150 : zokL 154 ((cd 154).drop 150) = true := zokN_join 30 _ zk_154_150 (by rw [List.drop_drop]; exact h180)
  have h120 : zokL 154 ((cd 154).drop 120) = true := zokN_join 30 _ zk_154_120 (by rw [List.drop_drop]; exact h150)
  have h90 : zokL 154 ((cd 154).drop 90) = true := zokN_join 30 _ zk_154_90 (by rw [List.drop_drop]; exact h120)
  have h60 : zokL 154 ((cd 154).drop 60) = true := zokN_join 30 _ zk_154_60 (by rw [List.drop_drop]; exact h90)
  have h30 : zokL 154 ((cd 154).drop 30) = true := zokN_join 30 _ zk_154_30 (by rw [List.drop_drop]; exact h60)
  have h0 : zokL 154 ((cd 154).drop 0) = true := zokN_join 30 _ zk_154_0 (by rw [List.drop_drop]; exact h30)
  exact h0
theorem zk_155_0 : zokN 155 30 ((cd 155).drop 0) = true := by decide +kernel
theorem zk_155 : zokL 155 (cd 155) = true := by
  have h30 : zokL 155 ((cd 155).drop 30) = true := rfl
  have h0 : zokL 155 ((cd 155).drop 0) = true := zokN_join 30 _ zk_155_0 (by rw [List.drop_drop]; exact h30)
  exact h0
theorem zk_156_0 : zokN 156 30 ((cd 156).drop 0) = true := by decide +kernel
theorem zk_156_30 : zokN 156 30 ((cd 156).drop 30) = true := by decide +kernel
theorem zk_156 : zokL 156 (cd 156) = true := by
  have h60 : zokL 156 ((cd 156).drop 60) = true := rfl
  have h30 : zokL 156 ((cd 156).drop 30) = true := zokN_join 30 _ zk_156_30 (by rw [List.drop_drop]; exact h60)
  have h0 : zokL 156 ((cd 156).drop 0) = true := zokN_join 30 _ zk_156_0 (by rw [List.drop_drop]; exact h30)
  exact h0
theorem zk_157_0 : zokN 157 30 ((cd 157).drop 0) = true := by decide +kernel
theorem zk_157 : zokL 157 (cd 157) = true := by
  have h30 : zokL 157 ((cd 157).drop 30) = true := rfl
  have h0 : zokL 157 ((cd 157).drop 0) = true := zokN_join 30 _ zk_157_0 (by rw [List.drop_drop]; exact h30)
  exact h0
theorem zk_158_0 : zokN 158 30 ((cd 158).drop 0) = true := by decide +kernel
theorem zk_158_30 : zokN 158 30 ((cd 158).drop 30) = true := by decide +kernel
theorem zk_158 : zokL 158 (cd 158) = true := by
  have h60 : zokL 158 ((cd 158).drop 60) = true := rfl
  have h30 : zokL 158 ((cd 158).drop 30) = true := zokN_join 30 _ zk_158_30 (by rw [List.drop_drop]; exact h60)
  have h0 : zokL 158 ((cd 158).drop 0) = true := zokN_join 30 _ zk_158_0 (by rw [List.drop_drop]; exact h30)
  exact h0
theorem zk_159_0 : zokN 159 30 ((cd 159).drop 0) = true := by decide +kernel
theorem zk_159 : zokL 159 (cd 159) = true := by
  have h30 : zokL 159 ((cd 159).drop 30) = true := rfl
  have h0 : zokL 159 ((cd 159).drop 0) = true := zokN_join 30 _ zk_159_0 (by rw [List.drop_drop]; exact h30)
  exact h0
theorem zk_160_0 : zokN 160 30 ((cd 160).drop 0) = true := by decide +kernel
theorem zk_160_30 : zokN 160 30 ((cd 160).drop 30) = true := by decide +kernel
theorem zk_160 : zokL 160 (cd 160) = true := by
  have h60 : zokL 160 ((cd 160).drop 60) = true := rfl
  have h30 : zokL 160 ((cd 160).drop 30) = true := zokN_join 30 _ zk_160_30 (by rw [List.drop_drop]; exact h60)
  have h0 : zokL 160 ((cd 160).drop 0) = true := zokN_join 30 _ zk_160_0 (by rw [List.drop_drop]; exact h30)
  exact h0
theorem zk_161_0 : zokN 161 30 ((cd 161).drop 0) = true := by decide +kernel
theorem zk_161_30 : zokN 161 30 ((cd 161).drop 30) = true := by decide +kernel
theorem zk_161 : zokL 161 (cd 161) = true := by
  have h60 : zokL 161 ((cd 161).drop 60) = true := rfl
  have h30 : zokL 161 ((cd 161).drop 30) = true := zokN_join 30 _ zk_161_30 (by rw [List.drop_drop]; exact h60)
  have h0 : zokL 161 ((cd 161).drop 0) = true := zokN_join 30 _ zk_161_0 (by rw [List.drop_drop]; exact h30)
  exact h0
theorem zk_162_0 : zokN 162 30 ((cd 162).drop 0) = true := by decide +kernel
theorem zk_162 : zokL 162 (cd 162) = true := by
  have h30 : zokL 162 ((cd 162).drop 30) = true := rfl
  have h0 : zokL 162 ((cd 162).drop 0) = true := zokN_join 30 _ zk_162_0 (by rw [List.drop_drop]; exact h30)
  exact h0
theorem zk_163_0 : zokN 163 30 ((cd 163).drop 0) = true := by decide +kernel
theorem zk_163_30 : zokN 163 30 ((cd 163).drop 30) = true := by decide +kernel
theorem zk_163_60 : zokN 163 30 ((cd 163).drop 60) = true := by decide +kernel
theorem zk_163 : zokL 163 (cd 163) = true := by
  have h90 : zokL 163 ((cd 163).drop 90) = true := rfl
  have h60 : zokL 163 ((cd 163).drop 60) = true := zokN_join 30 _ zk_163_60 (by rw [List.drop_drop]; exact h90)
  have h30 : zokL 163 ((cd 163).drop 30) = true := zokN_join 30 _ zk_163_30 (by rw [List.drop_drop]; exact h60)
  have h0 : zokL 163 ((cd 163).drop 0) = true := zokN_join 30 _ zk_163_0 (by rw [List.drop_drop]; exact h30)
  exact h0
theorem zk_164_0 : zokN 164 30 ((cd 164).drop 0) = true := by decide +kernel
theorem zk_164 : zokL 164 (cd 164) = true := by
  have h30 : zokL 164 ((cd 164).drop 30) = true := rfl
  have h0 : zokL 164 ((cd 164).drop 0) = true := zokN_join 30 _ zk_164_0 (by rw [List.drop_drop]; exact h30)
  exact h0
theorem zk_165_0 : zokN 165 30 ((cd 165).drop 0) = true := by decide +kernel
theorem zk_165_30 : zokN 165 30 ((cd 165).drop 30) = true := by decide +kernel
theorem zk_165_60 : zokN 165 30 ((cd 165).drop 60) = true := by decide +kernel
theorem zk_165 : zokL 165 (cd 165) = true := by
  have h90 : zokL 165 ((cd 165).drop 90) = true := rfl
  have h60 : zokL 165 ((cd 165).drop 60) = true := zokN_join 30 _ zk_165_60 (by rw [List.drop_drop]; exact h90)
  have h30 : zokL 165 ((cd 165).drop 30) = true := zokN_join 30 _ zk_165_30 (by rw [List.drop_drop]; exact h60)
  have h0 : zokL 165 ((cd 165).drop 0) = true := zokN_join 30 _ zk_165_0 (by rw [List.drop_drop]; exact h30)
  exact h0
theorem zk_166_0 : zokN 166 30 ((cd 166).drop 0) = true := by decide +kernel
theorem zk_166_30 : zokN 166 30 ((cd 166).drop 30) = true := by decide +kernel
theorem zk_166_60 : zokN 166 30 ((cd 166).drop 60) = true := by decide +kernel
theorem zk_166 : zokL 166 (cd 166) = true := by
  have h90 : zokL 166 ((cd 166).drop 90) = true := rfl
  have h60 : zokL 166 ((cd 166).drop 60) = true := zokN_join 30 _ zk_166_60 (by rw [List.drop_drop]; exact h90)
  have h30 : zokL 166 ((cd 166).drop 30) = true := zokN_join 30 _ zk_166_30 (by rw [List.drop_drop]; exact h60)
  have h0 : zokL 166 ((cd 166).drop 0) = true := zokN_join 30 _ zk_166_0 (by rw [List.drop_drop]; exact h30)
  exact h0
theorem zk_167_0 : zokN 167 30 ((cd 167).drop 0) = true := by decide +kernel
theorem zk_167_30 : zokN 167 30 ((cd 167).drop 30) = true := by decide +kernel
theorem zk_167 : zokL 167 (cd 167) = true := by
  have h60 : zokL 167 ((cd 167).drop 60) = true := rfl
  have h30 : zokL 167 ((cd 167).drop 30) = true := zokN_join 30 _ zk_167_30 (by rw [List.drop_drop]; exact h60)
  have h0 : zokL 167 ((cd 167).drop 0) = true := zokN_join 30 _ zk_167_0 (by rw [List.drop_drop]; exact h30)
  exact h0
theorem zk_168_0 : zokN 168 30 ((cd 168).drop 0) = true := by decide +kernel
theorem zk_168_30 : zokN 168 30 ((cd 168).drop 30) = true := by decide +kernel
theorem zk_168 : zokL 168 (cd 168) = true := by
  have h60 : zokL 168 ((cd 168).drop 60) = true := rfl
  have h30 : zokL 168 ((cd 168).drop 30) = true := zokN_join 30 _ zk_168_30 (by rw [List.drop_drop]; exact h60)
  have h0 : zokL 168 ((cd 168).drop 0) = true := zokN_join 30 _ zk_168_0 (by rw [List.drop_drop]; exact h30)
  exact h0
theorem zk_169_0 : zokN 169 30 ((cd 169).drop 0) = true := by decide +kernel
theorem zk_169 : zokL 169 (cd 169) = true := by
  have h30 : zokL 169 ((cd 169).drop 30) = true := rfl
  have h0 : zokL 169 ((cd 169).drop 0) = true := zokN_join 30 _ zk_169_0 (by rw [List.drop_drop]; exact h30)
  exact h0
theorem zk_170_0 : zokN 170 30 ((cd 170).drop 0) = true := by decide +kernel
theorem zk_170_30 : zokN 170 30 ((cd 170).drop 30) = true := by decide +kernel
theorem zk_170_60 : zokN 170 30 ((cd 170).drop 60) = true := by decide +kernel
theorem zk_170 : zokL 170 (cd 170) = true := by
  have h90 : zokL 170 ((cd 170).drop 90) = true := rfl
  have h60 : zokL 170 ((cd 170).drop 60) = true := zokN_join 30 _ zk_170_60 (by rw [List.drop_drop]; exact h90)
  have h30 : zokL 170 ((cd 170).drop 30) = true := zokN_join 30 _ zk_170_30 (by rw [List.drop_drop]; exact h60)
  have h0 : zokL 170 ((cd 170).drop 0) = true := zokN_join 30 _ zk_170_0 (by rw [List.drop_drop]; exact h30)
  exact h0
theorem zk_171_0 : zokN 171 30 ((cd 171).drop 0) = true := by decide +kernel
theorem zk_171_30 : zokN 171 30 ((cd 171).drop 30) = true := by decide +kernel
theorem zk_171 : zokL 171 (cd 171) = true := by
  have h60 : zokL 171 ((cd 171).drop 60) = true := rfl
  have h30 : zokL 171 ((cd 171).drop 30) = true := zokN_join 30 _ zk_171_30 (by rw [List.drop_drop]; exact h60)
  have h0 : zokL 171 ((cd 171).drop 0) = true := zokN_join 30 _ zk_171_0 (by rw [List.drop_drop]; exact h30)
  exact h0
theorem zk_172_0 : zokN 172 30 ((cd 172).drop 0) = true := by decide +kernel
theorem zk_172_30 : zokN 172 30 ((cd 172).drop 30) = true := by decide +kernel
theorem zk_172 : zokL 172 (cd 172) = true := by
  have h60 : zokL 172 ((cd 172).drop 60) = true := rfl
  have h30 : zokL 172 ((cd 172).drop 30) = true := zokN_join 30 _ zk_172_30 (by rw [List.drop_drop]; exact h60)
  have h0 : zokL 172 ((cd 172).drop 0) = true := zokN_join 30 _ zk_172_0 (by rw [List.drop_drop]; exact h30)
  exact h0
theorem zk_173_0 : zokN 173 30 ((cd 173).drop 0) = true := by decide +kernel
theorem zk_173_30 : zokN 173 30 ((cd 173).drop 30) = true := by decide +kernel
theorem zk_173 : zokL 173 (cd 173) = true := by
  have h60 : zokL 173 ((cd 173).drop 60) = true := rfl
  have h30 : zokL 173 ((cd 173).drop 30) = true := zokN_join 30 _ zk_173_30 (by rw [List.drop_drop]; exact h60)
  have h0 : zokL 173 ((cd 173).drop 0) = true := zokN_join 30 _ zk_173_0 (by rw [List.drop_drop]; exact h30)
  exact h0
theorem zk_174_0 : zokN 174 30 ((cd 174).drop 0) = true := by decide +kernel
theorem zk_174_30 : zokN 174 30 ((cd 174).drop 30) = true := by decide +kernel
theorem zk_174 : zokL 174 (cd 174) = true := by
  have h60 : zokL 174 ((cd 174).drop 60) = true := rfl
  have h30 : zokL 174 ((cd 174).drop 30) = true := zokN_join 30 _ zk_174_30 (by rw [List.drop_drop]; exact h60)
  have h0 : zokL 174 ((cd 174).drop 0) = true := zokN_join 30 _ zk_174_0 (by rw [List.drop_drop]; exact h30)
  exact h0
theorem zk_175_0 : zokN 175 30 ((cd 175).drop 0) = true := by decide +kernel
theorem zk_175 : zokL 175 (cd 175) = true := by
  have h30 : zokL 175 ((cd 175).drop 30) = true := rfl
  have h0 : zokL 175 ((cd 175).drop 0) = true := zokN_join 30 _ zk_175_0 (by rw [List.drop_drop]; exact h30)
  exact h0
theorem zk_176_0 : zokN 176 30 ((cd 176).drop 0) = true := by decide +kernel
theorem zk_176_30 : zokN 176 30 ((cd 176).drop 30) = true := by decide +kernel
theorem zk_176_60 : zokN 176 30 ((cd 176).drop 60) = true := by decide +kernel
theorem zk_176 : zokL 176 (cd 176) = true := by
  have h90 : zokL 176 ((cd 176).drop 90) = true := rfl
  have h60 : zokL 176 ((cd 176).drop 60) = true := zokN_join 30 _ zk_176_60 (by rw [List.drop_drop]; exact h90)
  have h30 : zokL 176 ((cd 176).drop 30) = true := zokN_join 30 _ zk_176_30 (by rw [List.drop_drop]; exact h60)
  have h0 : zokL 176 ((cd 176).drop 0) = true := zokN_join 30 _ zk_176_0 (by rw [List.drop_drop]; exact h30)
  exact h0
theorem zk_177_0 : zokN 177 30 ((cd 177).drop 0) = true := by decide +kernel
theorem zk_177_30 : zokN 177 30 ((cd 177).drop 30) = true := by decide +kernel
theorem zk_177_60 : zokN 177 30 ((cd 177).drop 60) = true := by decide +kernel
theorem zk_177 : zokL 177 (cd 177) = true := by
  have h90 : zokL 177 ((cd 177).drop 90) = true := rfl
  have h60 : zokL 177 ((cd 177).drop 60) = true := zokN_join 30 _ zk_177_60 (by rw [List.drop_drop]; exact h90)
  have h30 : zokL 177 ((cd 177).drop 30) = true := zokN_join 30 _ zk_177_30 (by rw [List.drop_drop]; exact h60)
  have h0 : zokL 177 ((cd 177).drop 0) = true := zokN_join 30 _ zk_177_0 (by rw [List.drop_drop]; exact h30)
  exact h0
theorem zk_178_0 : zokN 178 30 ((cd 178).drop 0) = true := by decide +kernel
theorem zk_178 : zokL 178 (cd 178) = true := by
  have h30 : zokL 178 ((cd 178).drop 30) = true := rfl
  have h0 : zokL 178 ((cd 178).drop 0) = true := zokN_join 30 _ zk_178_0 (by rw [List.drop_drop]; exact h30)
  exact h0
theorem zk_179_0 : zokN 179 30 ((cd 179).drop 0) = true := by decide +kernel
theorem zk_179 : zokL 179 (cd 179) = true := by
  have h30 : zokL 179 ((cd 179).drop 30) = true := rfl
  have h0 : zokL 179 ((cd 179).drop 0) = true := zokN_join 30 _ zk_179_0 (by rw [List.drop_drop]; exact h30)
  exact h0
theorem zk_180_0 : zokN 180 30 ((cd 180).drop 0) = true := by decide +kernel
theorem zk_180_30 : zokN 180 30 ((cd 180).drop 30) = true := by decide +kernel
theorem zk_180 : zokL 180 (cd 180) = true := by
  have h60 : zokL 180 ((cd 180).drop 60) = true := rfl
  have h30 : zokL 180 ((cd 180).drop 30) = true := zokN_join 30 _ zk_180_30 (by rw [List.drop_drop]; exact h60)
  have h0 : zokL 180 ((cd 180).drop 0) = true := zokN_join 30 _ zk_180_0 (by rw [List.drop_drop]; exact h30)
  exact h0
theorem zk_181_0 : zokN 181 30 ((cd 181).drop 0) = true := by decide +kernel
theorem zk_181_30 : zokN 181 30 ((cd 181).drop 30) = true := by decide +kernel
theorem zk_181_60 : zokN 181 30 ((cd 181).drop 60) = true := by decide +kernel
theorem zk_181_90 : zokN 181 30 ((cd 181).drop 90) = true := by decide +kernel
theorem zk_181 : zokL 181 (cd 181) = true := by
  have h120 : zokL 181 ((cd 181).drop 120) = true := rfl
  have h90 : zokL 181 ((cd 181).drop 90) = true := zokN_join 30 _ zk_181_90 (by rw [List.drop_drop]; exact h120)
  have h60 : zokL 181 ((cd 181).drop 60) = true := zokN_join 30 _ zk_181_60 (by rw [List.drop_drop]; exact h90)
  have h30 : zokL 181 ((cd 181).drop 30) = true := zokN_join 30 _ zk_181_30 (by rw [List.drop_drop]; exact h60)
  have h0 : zokL 181 ((cd 181).drop 0) = true := zokN_join 30 _ zk_181_0 (by rw [List.drop_drop]; exact h30)
  exact h0
