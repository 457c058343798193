set_option maxRecDepth 100000
set_option maxHeartbeats 4000000
theorem zk_182_0 : zokN 182 30 ((cd 182).drop 0) = true := by decide +kernel
theorem zk_182_30 : zokN 182 30 ((cd 182).drop 30) = true := by decide +kernel
theorem zk_182 : zokL 182 (cd 182) = true := by
  have h60 : zokL 182 ((cd 182).drop 60) = true := rfl
  have h30 : zokL 182 ((cd 182).drop 30) = true := zokN_join 30 _ zk_182_30 (by rw [List.drop_drop]; exact h60)
  have h0 : zokL 182 ((cd 182).drop 0) = true := zokN_join 30 _ zk_182_0 (by rw [List.drop_drop]; exact h30)
  exact h0
theorem zk_183_0 : zokN 183 30 ((cd 183).drop 0) = true := by decide +kernel
theorem zk_183 : zokL 183 (cd 183) = true := by
  have h30 : zokL 183 ((cd 183).drop 30) = true := rfl
  have h0 : zokL 183 ((cd 183).drop 0) = true := zokN_join 30 _ zk_183_0 (by rw [List.drop_drop]; exact h30)
  exact h0
theorem zk_184_0 : zokN 184 30 ((cd 184).drop 0) = true := by decide +kernel
theorem zk_184_30 : zokN 184 30 ((cd 184).drop 30) = true := by decide +kernel
theorem zk_184 : zokL 184 (cd 184) = true := by
  have h60 : zokL 184 ((cd 184).drop 60) = true := rfl
  have h30 : zokL 184 ((cd 184).drop 30) = true := zokN_join 30 _ zk_184_30 (by rw [List.drop_drop]; exact h60)
  have h0 : zokL 184 ((cd 184).drop 0) = true := zokN_join 30 _ zk_184_0 (by rw [List.drop_drop]; exact h30)
  exact h0
theorem zk_185_0 : zokN 185 30 ((cd 185).drop 0) = true := by decide +kernel
theorem zk_185_30 : zokN 185 30 ((cd 185).drop 30) = true := by decide +kernel
theorem zk_185 : zokL 185 (cd 185) = true := by
  have h60 : zokL 185 ((cd 185).drop 60) = true := rfl
  have h30 : zokL 185 ((cd 185).drop 30) = true := zokN_join 30 _ zk_185_30 (by rw [List.drop_drop]; exact h60)
  have h0 : zokL 185 ((cd 185).drop 0) = true := zokN_join 30 _ zk_185_0 (by rw [List.drop_drop]; exact h30)
  exact h0
theorem zk_186_0 : zokN 186 30 ((cd 186).drop 0) = true := by decide +kernel
theorem zk_186_30 : zokN 186 30 ((cd 186).drop 30) = true := by decide +kernel
theorem zk_186 : zokL 186 (cd 186) = true := by
  have h60 : zokL 186 ((cd 186).drop 60) = true := rfl
  have h30 : zokL 186 ((cd 186).drop 30) = true := zokN_join 30 _ zk_186_30 (by rw [List.drop_drop]; exact h60)
  have h0 : zokL 186 ((cd 186).drop 0) = true := zokN_join 30 _ zk_186_0 (by rw [List.drop_drop]; exact h30)
  exact h0
theorem zk_187_0 : zokN 187 30 ((cd 187).drop 0) = true := by decide +kernel
theorem zk_187_30 : zokN 187 30 ((cd 187).drop 30) = true := by decide +kernel
theorem zk_187_60 : zokN 187 30 ((cd 187).drop 60) = true := by decide +kernel
theorem zk_187_90 : zokN 187 30 ((cd 187).drop 90) = true := by decide +kernel
theorem zk_187 : zokL 187 (cd 187) = true := by
  have h120 : zokL 187 ((cd 187).drop 120) = true := rfl
  have h90 : zokL 187 ((cd 187).drop 90) = true := zokN_join 30 _ zk_187_90 (by rw [List.drop_drop]; exact h120)
  have h60 : zokL 187 ((cd 187).drop 60) = true := zokN_join 30 _ zk_187_60 (by rw [List.drop_drop]; exact h90)
  have h30 : zokL 187 ((cd 187).drop 30) = true := zokN_join 30 _ zk_187_30 (by rw [List.drop_drop]; exact h60)
  have h0 : zokL 187 ((cd 187).drop 0) = true := zokN_join 30 _ zk_187_0 (by rw [List.drop_drop]; exact h30)
  exact h0
theorem zk_188_0 : zokN 188 30 ((cd 188).drop 0) = true := by decide +kernel
theorem zk_188 : zokL 188 (cd 188) = true := by
  have h30 : zokL 188 ((cd 188).drop 30) = true := rfl
  have h0 : zokL 188 ((cd 188).drop 0) = true := zokN_join 30 _ zk_188_0 (by rw [List.drop_drop]; exact h30)
  exact h0
theorem zk_189_0 : zokN 189 30 ((cd 189).drop 0) = true := by decide +kernel
theorem zk_189 : zokL 189 (cd 189) = true := by
  have h30 : zokL 189 ((cd 189).drop 30) = true := rfl
  have h0 : zokL 189 ((cd 189).drop 0) = true := zokN_join 30 _ zk_189_0 (by rw [List.drop_drop]; exact h30)
  exact h0
theorem zk_190_0 : zokN 190 30 ((cd 190).drop 0) = true := by decide +kernel
theorem zk_190_30 : zokN 190 30 ((cd 190).drop 30) = true := by decide +kernel
theorem zk_190 : zokL 190 (cd 190) = true := by
  have h60 : zokL 190 ((cd 190).drop 60) = true := rfl
  have h30 : zokL 190 ((cd 190).drop 30) = true := zokN_join 30 _ zk_190_30 (by rw [List.drop_drop]; exact h60)
  have h0 : zokL 190 ((cd 190).drop 0) = true := zokN_join 30 _ zk_190_0 (by rw [List.drop_drop]; exact h30)
  exact h0
theorem zk_191_0 : zokN 191 30 ((cd 191).drop 0) = true := by decide +kernel
theorem zk_191_30 : zokN 191 30 ((cd 191).drop 30) = true := by decide +kernel
theorem zk_191 : zokL 191 (cd 191) = true := by
  have h60 : zokL 191 ((cd 191).drop 60) = true := rfl
  have h30 : zokL 191 ((cd 191).drop 30) = true := zokN_join 30 _ zk_191_30 (by rw [List.drop_drop]; exact h60)
  have h0 : zokL 191 ((cd 191).drop 0) = true := zokN_join 30 _ zk_191_0 (by rw [List.drop_drop]; exact h30)
  exact h0
theorem zk_192_0 : zokN 192 30 ((cd 192).drop 0) = true := by decide +kernel
theorem zk_192 : zokL 192 (cd 192) = true := by
  have h30 : zokL 192 ((cd 192).drop 30) = true := rfl
  have h0 : zokL 192 ((cd 192).drop 0) = true := zokN_join 30 _ zk_192_0 (by rw [List.drop_drop]; exact h30)
  exact h0
theorem zk_193_0 : zokN 193 30 ((cd 193).drop 0) = true := by decide +kernel
theorem zk_193 : zokL 193 (cd 193) = true := by
  have h30 : zokL 193 ((cd 193).drop 30) = true := rfl
  have h0 : zokL 193 ((cd 193).drop 0) = true := zokN_join 30 _ zk_193_0 (by rw [List.drop_drop]; exact h30)
  exact h0
theorem zk_194_0 : zokN 194 30 ((cd 194).drop 0) = true := by decide +kernel
theorem zk_194 : zokL 194 (cd 194) = true := by
  have h30 : zokL 194 ((cd 194).drop 30) = true := rfl
  have h0 : zokL 194 ((cd 194).drop 0) = true := zokN_join 30 _ zk_194_0 (by rw [List.drop_drop]; exact h30)
  exact h0
theorem zk_195_0 : zokN 195 30 ((cd 195).drop 0) = true := by decide +kernel
theorem zk_195_30 : zokN 195 30 ((cd 195).drop 30) = true := by decide +kernel
theorem zk_195_60 : zokN 195 30 ((cd 195).drop 60) = true := by decide +kernel
theorem zk_195_90 : zokN 195 30 ((cd 195).drop 90) = true := by decide +kernel
theorem zk_195_120 : zokN 195 30 ((cd 195).drop 120) = true := by decide +kernel
theorem zk_195 : zokL 195 (cd 195) = true := by
  have h150 : zokL 195 ((cd 195).drop 150) = true := rfl
  have h120 : zokL 195 ((cd 195).drop 120) = true := zokN_join 30 _ zk_195_120 (by rw [List.drop_drop]; exact h150)
  have h90 : zokL 195 ((cd 195).drop 90) = true := zokN_join 30 _ zk_195_90 (by rw [List.drop_drop]; exact h120)
  have h60 : zokL 195 ((cd 195).drop 60) = true := zokN_join 30 _ zk_195_60 (by rw [List.drop_drop]; exact h90)
  have h30 : zokL 195 ((cd 195).drop 30) = true := zokN_join 30 _ zk_195_30 (by rw [List.drop_drop]; exact h60)
  have h0 : zokL 195 ((cd 195).drop 0) = true := zokN_join 30 _ zk_195_0 (by rw [List.drop_drop]; exact h30)
  exact h0
theorem zk_196_0 : zokN 196 30 ((cd 196).drop 0) = true := by decide +kernel
theorem zk_196_30 : zokN 196 30 ((cd 196).drop 30) = true := by decide +kernel
theorem zk_196 : zokL 196 (cd 196) = true := by
  have h60 : zokL 196 ((cd 196).drop 60) = true := rfl
  have h30 : zokL 196 ((cd 196).drop 30) = true := zokN_join 30 _ zk_196_30 (by rw [List.drop_drop]; exact h60)
  have h0 : zokL 196 ((cd 196).drop 0) = true := zokN_join 30 _ zk_196_0 (by rw [List.drop_drop]; exact h30)
  exact h0
theorem zk_197_0 : zokN 197 30 ((cd 197).drop 0) = true := by decide +kernel
theorem zk_197_30 : zokN 197 30 ((cd 197).drop 30) = true := by decide +kernel
theorem zk_197_60 : zokN 197 30 ((cd 197).drop 60) = true := by decide +kernel
theorem zk_197_90 : zokN 197 30 ((cd 197).drop 90) = true := by decide +kernel
theorem zk_197_120 : zokN 197 30 ((cd 197).drop 120) = true := by decide +kernel
theorem zk_197_150 : zokN 197 30 ((cd 197).drop 150) = true := by decide +kernel
theorem zk_197_180 : zokN 197 30 ((cd 197).drop 180) = true := by decide +kernel
theorem zk_197_210 : zokN 197 30 ((cd 197).drop 210) = true := by decide +kernel
theorem zk_197 : zokL 197 (cd 197) = true := by
  have h240 : zokL 197 ((cd 197).drop 240) = true := rfl
  have h210 : zokL 197 ((cd 197).drop 210) = true := zokN_join 30 _ zk_197_210 (by rw [List.drop_drop]; exact h240)
  have h180 : zokL 197 ((cd 197).drop 180) = true := zokN_join 30 _ zk_197_180 (by rw [List.drop_drop]; exact h210)
  have h150 : zokL 197 ((cd 197).drop 150) = true := zokN_join 30 _ zk_197_150 (by rw [List.drop_drop]; exact h180)
  have h120 : zokL 197 ((cd 197).drop 120) = true := zokN_join 30 _ zk_197_120 (by rw [List.drop_drop]; exact h150)
  have h90 : zokL 197 ((cd 197).drop 90) = true := zokN_join 30 _ zk_197_90 (by rw [List.drop_drop]; exact h120)
  have h60 : zokL 197 ((cd 197).drop 60) = true := zokN_join 30 _ zk_197_60 (by rw [List.drop_drop]; exact h90)
  have h30 : zokL 197 ((cd 197).drop 30) = true := zokN_join 30 _ zk_197_30 (by rw [List.drop_drop]; exact h60)
  have h0 : zokL 197 ((cd 197).drop 0) = true := zokN_join 30 _ zk_197_0 (by rw [List.drop_drop]; exact h30)
  exact h0
theorem zk_198_0 : zokN 198 30 ((cd 198).drop 0) = true := by decide +kernel
theorem zk_198_30 : zokN 198 30 ((cd 198).drop 30) = true := by decide +kernel
theorem zk_198_60 : zokN 198 30 ((cd 198).drop 60) = true := by decide +kernel
theorem zk_198 : zokL 198 (cd 198) = true := by
  have h90 : zokL 198 ((cd 198).drop 90) = true := rfl
  have h60 : zokL 198 ((cd 198).drop 60) = true := zokN_join 30 _ zk_198_60 (by rw [List.drop_drop]; exact h90)
  have h30 : zokL 198 ((cd 198).drop 30) = true := zokN_join 30 _ zk_198_30 (by rw [List.drop_drop]; exact h60)
  have h0 : zokL 198 ((cd 198).drop 0) = true := zokN_join 30 _ zk_198_0 (by rw [List.drop_drop]; exact h30)
  exact h0
theorem zk_199_0 : zokN 199 30 ((cd 199).drop 0) = true := by decide +kernel
theorem zk_199 : zokL 199 (cd 199) = true := by
  have h30 : zokL 199 ((cd 199).drop 30) = true := rfl
  have h0 : zokL 199 ((cd 199).drop 0) = true := zokN_join 30 _ zk_199_0 (by rw [List.drop_drop]; exact h30)
  exact h0
theorem zk_200_0 : zokN 200 30 ((cd 200).drop 0) = true := by decide +kernel
theorem zk_200_30 : zokN 200 30 ((cd 200).drop 30) = true := by decide +kernel
theorem zk_200_60 : zokN 200 30 ((cd 200).drop 60) = true := by decide +kernel
theorem zk_200 : zokL 200 (cd 200) = true := by
  have h90 : zokL 200 ((cd 200).drop 90) = true := rfl
  have h60 : zokL 200 ((cd 200).drop 60) = true := zokN_join 30 _ zk_200_60 (by rw [List.drop_drop]; exact h90)
  have h30 : zokL 200 ((cd 200).drop 30) = true := zokN_join 30 _ zk_200_30 (by rw [List.drop_drop]; exact h60)
  have h0 : zokL 200 ((cd 200).drop 0) = true := zokN_join 30 _ zk_200_0 (by rw [List.drop_drop]; exact h30)
  exact h0
theorem zk_201_0 : zokN 201 30 ((cd 201).drop 0) = true := by decide +kernel
theorem zk_201_30 : zokN 201 30 ((cd 201).drop 30) = true := by decide +kernel
theorem zk_201 : zokL 201 (cd 201) = true := by
  have h60 : zokL 201 ((cd 201).drop 60) = true := rfl
  have h30 : zokL 201 ((cd 201).drop 30) = true := zokN_join 30 _ zk_201_30 (by rw [List.drop_drop]; exact h60)
  have h0 : zokL 201 ((cd 201).drop 0) = true := zokN_join 30 _ zk_201_0 (by rw [List.drop_drop]; exact h30)
  exact h0
theorem zk_202_0 : zokN 202 30 ((cd 202).drop 0) = true := by decide +kernel
theorem zk_202 : zokL 202 (cd 202) = true := by
  have h30 : zokL 202 ((cd 202).drop 30) = true := rfl
  have h0 : zokL 202 ((cd 202).drop 0) = true := zokN_join 30 _ zk_202_0 (by rw [List.drop_drop]; exact h30)
  exact h0
theorem zk_203_0 : zokN 203 30 ((cd 203).drop 0) = true := by decide +kernel
theorem zk_203 : zokL 203 (cd 203) = true := by
  have h30 : zokL 203 ((cd 203).drop 30) = true := rfl
  have h0 : zokL 203 ((cd 203).drop 0) = true := zokN_join 30 _ zk_203_0 (by rw [List.drop_drop]; exact h30)
  exact h0
theorem zk_204_0 : zokN 204 30 ((cd 204).drop 0) = true := by decide +kernel
theorem zk_204_30 : zokN 204 30 ((cd 204).drop 30) = true := by decide +kernel
theorem zk_204_60 : zokN 204 30 ((cd 204).drop 60) = true := by decide +kernel
theorem zk_204_90 : zokN 204 30 ((cd 204).drop 90) = true := by decide +kernel
theorem zk_204 : zokL 204 (cd 204) = true := by
  have h120 : zokL 204 ((cd 204).drop 120) = true := rfl
  have h90 : zokL 204 ((cd 204).drop 90) = true := zokN_join 30 _ zk_204_90 (by rw [List.drop_drop]; exact h120)
  have h60 : zokL 204 ((cd 204).drop 60) = true := zokN_join 30 _ zk_204_60 (by rw [List.drop_drop]; exact h90)
  have h30 : zokL 204 ((cd 204).drop 30) = true := zokN_join 30 _ zk_204_30 (by rw [List.drop_drop]; exact h60)
  have h0 : zokL 204 ((cd 204).drop 0) = true := zokN_join 30 _ zk_204_0 (by rw [List.drop_drop]; exact h30)
  exact h0
theorem zk_205_0 : zokN 205 30 ((cd 205).drop 0) = true := by decide +kernel
theorem zk_205_30 : zokN 205 30 ((cd 205).drop 30) = true := by decide +kernel
theorem zk_205_60 : zokN 205 30 ((cd 205).drop 60) = true := by decide +kernel
theorem zk_205 : zokL 205 (cd 205) = true := by
  have h90 : zokL 205 ((cd 205).drop 90) = true := rfl
  have h60 : zokL 205 ((cd 205).drop 60) = true := zokN_join 30 _ zk_205_60 (by rw [List.drop_drop]; exact h90)
  have h30 : zokL 205 ((cd 205).drop 30) = true := zokN_join 30 _ zk_205_30 (by rw [List.drop_drop]; exact h60)
  have h0 : zokL 205 ((cd 205).drop 0) = true := zokN_join 30 _ zk_205_0 (by rw [List.drop_drop]; exact h30)
  exact h0
theorem zk_206_0 : zokN 206 30 ((cd 206).drop 0) = true := by decide +kernel
theorem zk_206 : zokL 206 (cd 206) = true := by
  have h30 : zokL 206 ((cd 206).drop 30) = true := rfl
  have h0 : zokL 206 ((cd 206).drop 0) = true := zokN_join 30 _ zk_206_0 (by rw [List.drop_drop]; exact h30)
  exact h0
theorem zk_207_0 : zokN 207 30 ((cd 207).drop 0) = true := by decide +kernel
theorem zk_207_30 : zokN 207 30 ((cd 207).drop 30) = true := by decide +kernel
theorem zk_207_60 : zokN 207 30 ((cd 207).drop 60) = true := by decide +kernel
theorem zk_207_90 : zokN 207 30 ((cd 207).drop 90) = true := by decide +kernel
theorem zk_207 : zokL 207 (cd 207) = true := by
  have h120 : zokL 207 ((cd 207).drop 120) = true := rfl
  have h90 : zokL 207 ((cd 207).drop 90) = true := zokN_join 30 _ zk_207_90 (by rw [List.drop_drop]; exact h120)
  have h60 : zokL 207 ((cd 207).drop 60) = true := zokN_join 30 _ zk_207_60 (by rw [List.drop_drop]; exact h90)
  have h30 : zokL 207 ((cd 207).drop 30) = true := zokN_join 30 _ zk_207_30 (by rw [List.drop_drop]; exact h60)
  have h0 : zokL 207 ((cd 207).drop 0) = true := zokN_join 30 _ zk_207_0 (by rw [List.drop_drop]; exact h30)
  exact h0
theorem zk_208_0 : zokN 208 30 ((cd 208).drop 0) = true := by decide +kernel
theorem zk_208_30 : zokN 208 30 ((cd 208).drop 30) = true := by decide +kernel
theorem zk_208_60 : zokN 208 30 ((cd 208).drop 60) = true := by decide +kernel
theorem zk_208_90 : zokN 208 30 ((cd 208).drop 90) = true := by decide +kernel
theorem zk_208 : zokL 208 (cd 208) = true := by
  have h120 : zokL 208 ((cd 208).drop 120) = true := rfl
  have h90 : zokL 208 ((cd 208).drop 90) = true := zokN_join 30 _ zk_208_90 (by rw [List.drop_drop]; exact h120)
  have h60 : zokL 208 ((cd 208).drop 60) = true := zokN_join 30 _ zk_208_60 (by rw [List.drop_drop]; exact h90)
  have h30 : zokL 208 ((cd 208).drop 30) = true := zokN_join 30 _ zk_208_30 (by rw [List.drop_drop]; exact h60)
  have h0 : zokL 208 ((cd 208).drop 0) = true := zokN_join 30 _ zk_208_0 (by rw [List.drop_drop]; exact h30)
  exact h0
theorem zk_209_0 : zokN 209 30 ((cd 209).drop 0) = true := by decide +kernel
theorem zk_209 : zokL 209 (cd 209) = true := by
  have h30 : zokL 209 ((cd 209).drop 30) = true := rfl
  have h0 : zokL 209 ((cd 209).drop 0) = true := zokN_join 30 _ zk_209_0 (by rw [List.drop_drop]; exact h30)
  exact h0
theorem zk_210_0 : zokN 210 30 ((cd 210).drop 0) = true := by decide +kernel
theorem zk_210_30 : zokN 210 30 ((cd 210).drop 30) = true := by decide +kernel
theorem zk_210_60 : zokN 210 30 ((cd 210).drop 60) = true := by decide +kernel
theorem zk_210 : zokL 210 (cd 210) = true := by
  have h90 : zokL 210 ((cd 210).drop 90) = true := rfl
  have h60 : zokL 210 ((cd 210).drop 60) = true := zokN_join 30 _ zk_210_60 (by rw [List.drop_drop]; exact h90)
  have h30 : zokL 210 ((cd 210).drop 30) = true := zokN_join 30 _ zk_210_30 (by rw [List.drop_drop]; exact h60)
  have h0 : zokL 210 ((cd 210).drop 0) = true := zokN_join 30 _ zk_210_0 (by rw [List.drop_drop]; exact h30)
  exact h0
theorem zk_211_0 : zokN 211 30 ((cd 211).drop 0) = true := by decide +kernel
theorem zk_211 : zokL 211 (cd 211) = true := by
  have h30 : zokL 211 ((cd 211).drop 30) = true := rfl
  have h0 : zokL 211 ((cd 211).drop 0) = true := zokN_join 30 _ zk_211_0 (by rw [List.drop_drop]; exact h30)
  exact h0
theorem zk_212_0 : zokN 212 30 ((cd 212).drop 0) = true := by decide +kernel
theorem zk_212 : zokL 212 (cd 212) = true := by
  have h30 : zokL 212 ((cd 212).drop 30) = true := rfl
  have h0 : zokL 212 ((cd 212).drop 0) = true := zokN_join 30 _ zk_212_0 (by rw [List.drop_drop]; exact h30)
  exact h0
theorem zk_213_0 : zokN 213 30 ((cd 213).drop 0) = true := by decide +kernel
theorem zk_213 : zokL 213 (cd 213) = true := by
  have h30 : zokL 213 ((cd 213).drop 30) = true := rfl
  have h0 : zokL 213 ((cd 213).drop 0) = true := zokN_join 30 _ zk_213_0 (by rw [List.drop_drop]; exact h30)
  exact h0
theorem zk_214_0 : zokN 214 30 ((cd 214).drop 0) = true := by decide +kernel
theorem zk_214 : zokL 214 (cd 214) = true := by
  have h30 : zokL 214 ((cd 214).drop 30) = true := rfl
  have h0 : zokL 214 ((cd 214).drop 0) = true := zokN_join 30 _ zk_214_0 (by rw [List.drop_drop]; exact h30)
  exact h0
theorem zk_215_0 : zokN 215 30 ((cd 215).drop 0) = true := by decide +kernel
theorem zk_215 : zokL 215 (cd 215) = true := by
  have h30 : zokL 215 ((cd 215).drop 30) = true := rfl
  have h0 : zokL 215 ((cd 215).drop 0) = true := zokN_join 30 _ zk_215_0 (by rw [List.drop_drop]; exact h30)
  exact h0
theorem zk_216_0 : zokN 216 30 ((cd 216).drop 0) = true := by decide +kernel
theorem zk_216_30 : zokN 216 30 ((cd 216).drop 30) = true := by decide +kernel
theorem zk_216 : zokL 216 (cd 216) = true := by
  have h60 : zokL 216 ((cd 216).drop 60) = true := rfl
  have h30 : zokL 216 ((cd 216).drop 30) = true := zokN_join 30 _ zk_216_30 (by rw [List.drop_drop]; exact h60)
  have h0 : zokL 216 ((cd 216).drop 0) = true := zokN_join 30 _ zk_216_0 (by rw [List.drop_drop]; exact h30)
  exact h0
theorem zk_217_0 : zokN 217 30 ((cd 217).drop 0) = true := by decide +kernel
theorem zk_217_30 : zokN 217 30 ((cd 217).drop 30) = true := by decide +kernel
theorem zk_217 : zokL 217 (cd 217) = true := by
  have h60 : zokL 217 ((cd 217).drop 60) = true := rfl
  have h30 : zokL 217 ((cd 217).drop 30) = true := zokN_join 30 _ zk_217_30 (by rw [List.drop_drop]; exact h60)
  have h0 : zokL 217 ((cd 217).drop 0) = true := zokN_join 30 _ zk_217_0 (by rw [List.drop_drop]; exact h30)
  exact h0
theorem zk_218_0 : zokN 218 30 ((cd 218).drop 0) = true := by decide +kernel
theorem zk_218 : zokL 218 (cd 218) = true := by
  have h30 : zokL 218 ((cd 218).drop 30) = true := rfl
  have h0 : zokL 218 ((cd 218).drop 0) = true := zokN_join 30 _ zk_218_0 (by rw [List.drop_drop]; exact h30)
  exact h0
theorem zk_219_0 : zokN 219 30 ((cd 219).drop 0) = true := by decide +kernel
theorem zk_219 : zokL 219 (cd 219) = true := by
  have h30 : zokL 219 ((cd 219).drop 30) = true := rfl
  have h0 : zokL 219 ((cd 219).drop 0) = true := zokN_join 30 _ zk_219_0 (by rw [List.drop_drop]; exact h30)
  exact h0
theorem zk_220_0 : zokN 220 30 ((cd 220).drop 0) = true := by decide +kernel
theorem zk_220_30 : zokN 220 30 ((cd 220).drop 30) = true := by decide +kernel
theorem zk_220_60 : zokN 220 30 ((cd 220).drop 60) = true := by decide +kernel
theorem zk_220_90 : zokN 220 30 ((cd 220).drop 90) = true := by decide +kernel
theorem zk_220 : zokL 220 (cd 220) = true := by
  have h120 : zokL 220 ((cd 220).drop 120) = true := rfl
  have h90 : zokL 220 ((cd 220).drop 90) = true := zokN_join 30 _ zk_220_90 (by rw [List.drop_drop]; exact h120)
  have h60 : zokL 220 ((cd 220).drop 60) = true := zokN_join 30 _ zk_220_60 (by rw [List.drop_drop]; exact h90)
  have h30 : zokL 220 ((cd 220).drop 30) = true := zokN_join 30 _ zk_220_30 (by rw [List.drop_drop]; exact h60)
  have h0 : zokL 220 ((cd 220).drop 0) = true := zokN_join 30 _ zk_220_0 (by rw [List.drop_drop]; exact h30)
  exact h0
theorem zk_221_0 : zokN 221 30 ((cd 221).drop 0) = true := by decide +kernel
theorem zk_221 : zokL 221 (cd 221) = true := by
  have h30 : zokL 221 ((cd 221).drop 30) = true := rfl
  have h0 : zokL 221 ((cd 221).drop 0) = true := zokN_join 30 _ zk_221_0 (by rw [List.drop_drop]; exact h30)
  exact h0
theorem zk_222_0 : zokN 222 30 ((cd 222).drop 0) = true := by decide +kernel
theorem zk_222 : zokL 222 (cd 222) = true := by
  have h30 : zokL 222 ((cd 222).drop 30) = true := rfl
  have h0 : zokL 222 ((cd 222).drop 0) = true := zokN_join 30 _ zk_222_0 (by rw [List.drop_drop]; exact h30)
  exact h0
theorem zk_223_0 : zokN 223 30 ((cd 223).drop 0) = true := by decide +kernel
theorem zk_223_30 : zokN 223 30 ((cd 223).drop 30) = true := by decide +kernel
theorem zk_223_60 : zokN 223 30 ((cd 223).drop 60) = true := by decide +kernel
theorem zk_223_90 : zokN 223 30 ((cd 223).drop 90) = true := by decide +kernel
theorem zk_223_120 : zokN 223 30 ((cd 223).drop 120) = true := by decide +kernel
theorem zk_223 : zokL 223 (cd 223) = true := by
  have h150 : zokL 223 ((cd 223).drop 150) = true := rfl
  have h120 : zokL 223 ((cd 223).drop 120) = true := zokN_join 30 _ zk_223_120 (by rw [List.drop_drop]; exact h150)
  have h90 : zokL 223 ((cd 223).drop 90) = true := zokN_join 30 _ zk_223_90 (by rw [List.drop_drop]; exact h120)
  have h60 : zokL 223 ((cd 223).drop 60) = true := zokN_join 30 _ zk_223_60 (by rw [List.drop_drop]; exact h90)
  have h30 : zokL 223 ((cd 223).drop 30) = true := zokN_join 30 _ zk_223_30 (by rw [List.drop_drop]; exact h60)
  have h0 : zokL 223 ((cd 223).drop 0) = true := zokN_join 30 _ zk_223_0 (by rw [List.drop_drop]; exact h30)
  exact h0
theorem zk_224_0 : zokN 224 30 ((cd 224).drop 0) = true := by decide +kernel
theorem zk_224_30 : zokN 224 30 ((cd 224).drop 30) = true := by decide +kernel
theorem zk_224 : zokL 224 (cd 224) = true := by
  have h60 : zokL 224 ((cd 224).drop 60) = true := rfl
  have h30 : zokL 224 ((cd 224).drop 30) = true := zokN_join 30 _ zk_224_30 (by rw [List.drop_drop]; exact h60)
  have h0 : zokL 224 ((cd 224).drop 0) = true := zokN_join 30 _ zk_224_0 (by rw [List.drop_drop]; exact h30)
  exact h0
theorem zk_225_0 : zokN 225 30 ((cd 225).drop 0) = true := by decide +kernel
theorem zk_225 : zokL 225 (cd 225) = true := by
  have h30 : zokL 225 ((cd 225).drop 30) = true := rfl
  have h0 : zokL 225 ((cd 225).drop 0) = true := zokN_join 30 _ zk_225_0 (by rw [List.drop_drop]; exact h30)
  exact h0
theorem zk_226_0 : zokN 226 30 ((cd 226).drop 0) = true := by decide +kernel
theorem zk_226_30 : zokN 226 30 ((cd 226).drop 30) = true := by decide +kernel
theorem zk_226 : zokL 226 (cd 226) = true := by
  have h60 : zokL 226 ((cd 226).drop 60) = true := rfl
  have h30 : zokL 226 ((cd 226).drop 30) = true := zokN_join 30 _ zk_226_30 (by rw [List.drop_drop]; exact h60)
  have h0 : zokL 226 ((cd 226).drop 0) = true := zokN_join 30 _ zk_226_0 (by rw [List.drop_drop]; exact h30)
  exact h0
theorem zk_227_0 : zokN 227 30 ((cd 227).drop 0) = true := by decide +kernel
theorem zk_227_30 : zokN 227 30 ((cd 227).drop 30) = true := by decide +kernel
theorem zk_227 : zokL 227 (cd 227) = true := by
  have h60 : zokL 227 ((cd 227).drop 60) = true := rfl
  have h30 : zokL 227 ((cd 227).drop 30) = true := zokN_join 30 _ zk_227_30 (by rw [List.drop_drop]; exact h60)
  have h0 : zokL 227 ((cd 227).drop 0) = true := zokN_join 30 _ zk_227_0 (by rw [List.drop_drop]; exact h30)
  exact h0
theorem zk_228_0 : zokN 228 30 ((cd 228).drop 0) = true := by decide +kernel
theorem zk_228 : zokL 228 (cd 228) = true := by
  have h30 : zokL 228 ((cd 228).drop 30) = true := rfl
  have h0 : zokL 228 ((cd 228).drop 0) = true := zokN_join 30 _ zk_228_0 (by rw [List.drop_drop]; exact h30)
  exact h0
theorem zk_229_0 : zokN 229 30 ((cd 229).drop 0) = true := by decide +kernel
theorem zk_229 : zokL 229 (cd 229) = true := by
  have h30 : zokL 229 ((cd 229).drop 30) = true := rfl
  have h0 : zokL 229 ((cd 229).drop 0) = true := zokN_join 30 _ zk_229_0 (by rw [List.drop_drop]; exact h30)
  exact h0
theorem zk_230_0 : zokN 230 30 ((cd 230).drop 0) = true := by decide +kernel
theorem zk_230 : zokL 230 (cd 230) = true := by
  have h30 : zokL 230 ((cd 230).drop 30) = true := rfl
  have h0 : zokL 230 ((cd 230).drop 0) = true := zokN_join 30 _ zk_230_0 (by rw [List.drop_drop]; exact h30)
  exact h0
theorem zk_231_0 : zokN 231 30 ((cd 231).drop 0) = true := by decide +kernel
theorem zk_231_30 : zokN 231 30 ((cd 231).drop 30) = true := by decide +kernel
theorem zk_231_60 : zokN 231 30 ((cd 231).drop 60) = true := by decide +kernel
theorem zk_231 : zokL 231 (cd 231) = true := by
  have h90 : zokL 231 ((cd 231).drop 90) = true := rfl
  have h60 : zokL 231 ((cd 231).drop 60) = true := zokN_join 30 _ zk_231_60 (by rw [List.drop_drop]; exact h90)
  have h30 : zokL 231 ((cd 231).drop 30) = true := zokN_join 30 _ zk_231_30 (by rw [List.drop_drop]; exact h60)
  have h0 : zokL 231 ((cd 231).drop 0) = true := zokN_join 30 _ zk_231_0 (by rw [List.drop_drop]; exact h30)
  exact h0
theorem zk_232_0 : zokN 232 30 ((cd 232).drop 0) = true := by decide +kernel
theorem zk_232_30 : zokN 232 30 ((cd 232).drop 30) = true := by decide +kernel
theorem zk_232_60 : zokN 232 30 ((cd 232).drop 60) = true := by decide +kernel
theorem zk_232 : zokL 232 (cd 232) = true := by
  have h90 : zokL 232 ((cd 232).drop 90) = true := rfl
  have h60 : zokL 232 ((cd 232).drop 60) = true := zokN_join 30 _ zk_232_60 (by rw [List.drop_drop]; exact h90)
  have h30 : zokL 232 ((cd 232).drop 30) = true := zokN_join 30 _ zk_232_30 (by rw [List.drop_drop]; exact h60)
  have h0 : zokL 232 ((cd 232).drop 0) = true := zokN_join 30 _ zk_232_0 (by rw [List.drop_drop]; exact h30)
  exact h0
theorem zk_233_0 : zokN 233 30 ((cd 233).drop 0) = true := by decide +kernel
theorem zk_233 : zokL 233 (cd 233) = true := by
  have h30 : zokL 233 ((cd 233).drop 30) = true := rfl
  have h0 : zokL 233 ((cd 233).drop 0) = true := zokN_join 30 _ zk_233_0 (by rw [List.drop_drop]; exact h30)
  exact h0
theorem zk_234_0 : zokN 234 30 ((cd 234).drop 0) = true := by decide +kernel
theorem zk_234_30 : zokN 234 30 ((cd 234).drop 30) = true := by decide +kernel
theorem zk_234 : zokL 234 (cd 234) = true := by
  have h60 : zokL 234 ((cd 234).drop 60) = true := rfl
  have h30 : zokL 234 ((cd 234).drop 30) = true := zokN_join 30 _ zk_234_30 (by rw [List.drop_drop]; exact h60)
  have h0 : zokL 234 ((cd 234).drop 0) = true := zokN_join 30 _ zk_234_0 (by rw [List.drop_drop]; exact h30)
  exact h0
theorem zk_235_0 : zokN 235 30 ((cd 235).drop 0) = true := by decide +kernel
theorem zk_235 : zokL 235 (cd 235) = true := by
  have h30 : zokL 235 ((cd 235).drop 30) = true := rfl
  have h0 : zokL 235 ((cd 235).drop 0) = true := zokN_join 30 _ zk_235_0 (by rw [List.drop_drop]; exact h30)
  exact h0
theorem zk_236_0 : zokN 236 30 ((cd 236).drop 0) = true := by decide +kernel
theorem zk_236_30 : zokN 236 30 ((cd 236).drop 30) = true := by decide +kernel
theorem zk_236_60 : zokN 236 30 ((cd 236).drop 60) = true := by decide +kernel
theorem zk_236_90 : zokN 236 30 ((cd 236).drop 90) = true := by decide +kernel
theorem zk_236_120 : zokN 236 30 ((cd 236).drop 120) = true := by decide +kernel
theorem zk_236_150 : zokN 236 30 ((cd 236).drop 150) = true := by decide +kernel
theorem zk_236_180 : zokN 236 30 ((cd 236).drop 180) = true := by decide +kernel
theorem zk_236_210 : zokN 236 30 ((cd 236).drop 210) = true := by decide +kernel
theorem zk_236 : zokL 236 (cd 236) = true := by
  have h240 : zokL 236 ((cd 236).drop 240) = true := rfl
  have h210 : zokL 236 ((cd 236).drop 210) = true := zokN_join 30 _ zk_236_210 (by rw [List.drop_drop]; exact h240)
  have h180 : zokL 236 ((cd 236).drop 180) = true := zokN_join 30 _ zk_236_180 (by rw [List.drop_drop]; exact h210)
  have h150 : zokL 236 ((cd 236).drop 150) = true := zokN_join 30 _ zk_236_150 (by rw [List.drop_drop]; exact h180)
  have h120 : zokL 236 ((cd 236).drop 120) = true := zokN_join 30 _ zk_236_120 (by rw [List.drop_drop]; exact h150)
  have h90 : zokL 236 ((cd 236).drop 90) = true := zokN_join 30 _ zk_236_90 (by rw [List.drop_drop]; exact h120)
  have h60 : zokL 236 ((cd 236).drop 60) = true := zokN_join 30 _ zk_236_60 (by rw [List.drop_drop]; exact h90)
  have h30 : zokL 236 ((cd 236).drop 30) = true := zokN_join 30 _ zk_236_30 (by rw [List.drop_drop]; exact h60)
  have h0 : zokL 236 ((cd 236).drop 0) = true := zokN_join 30 _ zk_236_0 (by rw [List.drop_drop]; exact h30)
  exact h0
theorem zk_237_0 : zokN 237 30 ((cd 237).drop 0) = true := by decide +kernel
theorem zk_237_30 : zokN 237 30 ((cd 237).drop 30) = true := by decide +kernel
theorem zk_237 : zokL 237 (cd 237) = true := by
  have h60 : zokL 237 ((cd 237).drop 60) = true := rfl
  have h30 : zokL 237 ((cd 237).drop 30) = true := zokN_join 30 _ zk_237_30 (by rw [List.drop_drop]; exact h60)
  have h0 : zokL 237 ((cd 237).drop 0) = true := zokN_join 30 _ zk_237_0 (by rw [List.drop_drop]; exact h30)
  exact h0
theorem zk_238_0 : zokN 238 30 ((cd 238).drop 0) = true := by decide +kernel
theorem zk_238_30 : zokN 238 30 ((cd 238).drop 30) = true := by decide +kernel
theorem zk_238 : zokL 238 (cd 238) = true := by
  have h60 : zokL 238 ((cd 238).drop 60) = true := rfl
  have h30 : zokL 238 ((cd 238).drop 30) = true := zokN_join 30 _ zk_238_30 (by rw [List.drop_drop]; exact h60)
  have h0 : zokL 238 ((cd 238).drop 0) = true := zokN_join 30 _ zk_238_0 (by rw [List.drop_drop]; exact h30)
  exact h0
theorem zk_239_0 : zokN 239 30 ((cd 239).drop 0) = true := by decide +kernel
theorem zk_239 : zokL 239 (cd 239) = true := by
  have h30 : zokL 239 ((cd 239).drop 30) = true := rfl
  have h0 : zokL 239 ((cd 239).drop 0) = true := zokN_join 30 _ zk_239_0 (by rw [List.drop_drop]; exact h30)
  exact h0
theorem zk_240_0 : zokN 240 30 ((cd 240).drop 0) = true := by decide +kernel
theorem zk_240_30 : zokN 240 30 ((cd 240).drop 30) = true := by decide +kernel
theorem zk_240_60 : zokN 240 30 ((cd 240).drop 60) = true := by decide +kernel
theorem zk_240 : zokL 240 (cd 240) = true := by
  have h90 : zokL 240 ((cd 240).drop 90) = true := rfl
  have h60 : zokL 240 ((cd 240).drop 60) = true := zokN_join 30 _ zk_240_60 (by rw [List.drop_drop]; exact h90)
  have h30 : zokL 240 ((cd 240).drop 30) = true := zokN_join 30 _ zk_240_30 (by rw [List.drop_drop]; exact h60)
  have h0 : zokL 240 ((cd 240).drop 0) = true := zokN_join 30 _ zk_240_0 (by rw [List.drop_drop]; exact h30)
  exact h0
theorem zk_241_0 : zokN 241 30 ((cd 241).drop 0) = true := by decide +kernel
theorem zk_241 : zokL 241 (cd 241) = true := by
  have h30 : zokL 241 ((cd 241).drop 30) = true := rfl
  have h0 : zokL 241 ((cd 241).drop 0) = true := zokN_join 30 _ zk_241_0 (by rw [List.drop_drop]; exact h30)
  exact h0
