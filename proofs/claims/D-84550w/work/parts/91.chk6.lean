set_option maxRecDepth 100000
set_option maxHeartbeats 4000000
theorem zk_302_0 : zokN 302 30 ((cd 302).drop 0) = true := by decide +kernel
theorem zk_302 : zokL 302 (cd 302) = true := by
  have h30 : zokL 302 ((cd 302).drop 30) = true := rfl
  have h0 : zokL 302 ((cd 302).drop 0) = true := zokN_join 30 _ zk_302_0 (by rw [List.drop_drop]; exact h30)
  exact h0
theorem zk_303_0 : zokN 303 30 ((cd 303).drop 0) = true := by decide +kernel
theorem zk_303 : zokL 303 (cd 303) = true := by
  have h30 : zokL 303 ((cd 303).drop 30) = true := rfl
  have h0 : zokL 303 ((cd 303).drop 0) = true := zokN_join 30 _ zk_303_0 (by rw [List.drop_drop]; exact h30)
  exact h0
theorem zk_304_0 : zokN 304 30 ((cd 304).drop 0) = true := by decide +kernel
theorem zk_304_30 : zokN 304 30 ((cd 304).drop 30) = true := by decide +kernel
theorem zk_304_60 : zokN 304 30 ((cd 304).drop 60) = true := by decide +kernel
theorem zk_304_90 : zokN 304 30 ((cd 304).drop 90) = true := by decide +kernel
theorem zk_304_120 : zokN 304 30 ((cd 304).drop 120) = true := by decide +kernel
theorem zk_304_150 : zokN 304 30 ((cd 304).drop 150) = true := by decide +kernel
theorem zk_304_180 : zokN 304 30 ((cd 304).drop 180) = true := by decide +kernel
theorem zk_304 : zokL 304 (cd 304) = true := by
  have h210 : zokL 304 ((cd 304).drop 210) = true := rfl
  have h180 : zokL 304 ((cd 304).drop 180) = true := zokN_join 30 _ zk_304_180 (by rw [List.drop_drop]; exact h210)
  have h150 : zokL 304 ((cd 304).drop 150) = true := zokN_join 30 _ zk_304_150 (by rw [List.drop_drop]; exact h180)
  have h120 : zokL 304 ((cd 304).drop 120) = true := zokN_join 30 _ zk_304_120 (by rw [List.drop_drop]; exact h150)
  have h90 : zokL 304 ((cd 304).drop 90) = true := zokN_join 30 _ zk_304_90 (by rw [List.drop_drop]; exact h120)
  have h60 : zokL 304 ((cd 304).drop 60) = true := zokN_join 30 _ zk_304_60 (by rw [List.drop_drop]; exact h90)
  have h30 : zokL 304 ((cd 304).drop 30) = true := zokN_join 30 _ zk_304_30 (by rw [List.drop_drop]; exact h60)
  have h0 : zokL 304 ((cd 304).drop 0) = true := zokN_join 30 _ zk_304_0 (by rw [List.drop_drop]; exact h30)
  exact h0
theorem zk_305_0 : zokN 305 30 ((cd 305).drop 0) = true := by decide +kernel
theorem zk_305 : zokL 305 (cd 305) = true := by
  have h30 : zokL 305 ((cd 305).drop 30) = true := rfl
  have h0 : zokL 305 ((cd 305).drop 0) = true := zokN_join 30 _ zk_305_0 (by rw [List.drop_drop]; exact h30)
  exact h0
theorem zk_306_0 : zokN 306 30 ((cd 306).drop 0) = true := by decide +kernel
theorem zk_306_30 : zokN 306 30 ((cd 306).drop 30) = true := by decide +kernel
theorem zk_306_60 : zokN 306 30 ((cd 306).drop 60) = true := by decide +kernel
theorem zk_306_90 : zokN 306 30 ((cd 306).drop 90) = true := by decide +kernel
theorem zk_306 : zokL 306 (cd 306) = true := by
  have h120 : zokL 306 ((cd 306).drop 120) = true := rfl
  have h90 : zokL 306 ((cd 306).drop 90) = true := zokN_join 30 _ zk_306_90 (by rw [List.drop_drop]; exact h120)
  have h60 : zokL 306 ((cd 306).drop 60) = true := zokN_join 30 _ zk_306_60 (by rw [List.drop_drop]; exact h90)
  have h30 : zokL 306 ((cd 306).drop 30) = true := zokN_join 30 _ zk_306_30 (by rw [List.drop_drop]; exact h60)
  have h0 : zokL 306 ((cd 306).drop 0) = true := zokN_join 30 _ zk_306_0 (by rw [List.drop_drop]; exact h30)
  exact h0
theorem zk_307_0 : zokN 307 30 ((cd 307).drop 0) = true := by decide +kernel
theorem zk_307_30 : zokN 307 30 ((cd 307).drop 30) = true := by decide +kernel
theorem zk_307_60 : zokN 307 30 ((cd 307).drop 60) = true := by decide +kernel
theorem zk_307_90 : zokN 307 30 ((cd 307).drop 90) = true := by decide +kernel
theorem zk_307_120 : zokN 307 30 ((cd 307).drop 120) = true := by decide +kernel
theorem zk_307 : zokL 307 (cd 307) = true := by
  have h150 : zokL 307 ((cd 307).drop 150) = true := rfl
  have h120 : zokL 307 ((cd 307).drop 120) = true := zokN_join 30 _ zk_307_120 (by rw [List.drop_drop]; exact h150)
  have h90 : zokL 307 ((cd 307).drop 90) = true := zokN_join 30 _ zk_307_90 (by rw [List.drop_drop]; exact h120)
  have h60 : zokL 307 ((cd 307).drop 60) = true := zokN_join 30 _ zk_307_60 (by rw [List.drop_drop]; exact h90)
  have h30 : zokL 307 ((cd 307).drop 30) = true := zokN_join 30 _ zk_307_30 (by rw [List.drop_drop]; exact h60)
  have h0 : zokL 307 ((cd 307).drop 0) = true := zokN_join 30 _ zk_307_0 (by rw [List.drop_drop]; exact h30)
  exact h0
theorem zk_308_0 : zokN 308 30 ((cd 308).drop 0) = true := by decide +kernel
theorem zk_308_30 : zokN 308 30 ((cd 308).drop 30) = true := by decide +kernel
theorem zk_308_60 : zokN 308 30 ((cd 308).drop 60) = true := by decide +kernel
theorem zk_308_90 : zokN 308 30 ((cd 308).drop 90) = true := by decide +kernel
theorem zk_308 : zokL 308 (cd 308) = true := by
  have h120 : zokL 308 ((cd 308).drop 120) = true := rfl
  have h90 : zokL 308 ((cd 308).drop 90) = true := zokN_join 30 _ zk_308_90 (by rw [List.drop_drop]; exact h120)
  have h60 : zokL 308 ((cd 308).drop 60) = true := zokN_join 30 _ zk_308_60 (by rw [List.drop_drop]; exact h90)
  have h30 : zokL 308 ((cd 308).drop 30) = true := zokN_join 30 _ zk_308_30 (by rw [List.drop_drop]; exact h60)
  have h0 : zokL 308 ((cd 308).drop 0) = true := zokN_join 30 _ zk_308_0 (by rw [List.drop_drop]; exact h30)
  exact h0
theorem zk_309_0 : zokN 309 30 ((cd 309).drop 0) = true := by decide +kernel
theorem zk_309 : zokL 309 (cd 309) = true := by
  have h30 : zokL 309 ((cd 309).drop 30) = true := rfl
  have h0 : zokL 309 ((cd 309).drop 0) = true := zokN_join 30 _ zk_309_0 (by rw [List.drop_drop]; exact h30)
  exact h0
theorem zk_310_0 : zokN 310 30 ((cd 310).drop 0) = true := by decide +kernel
theorem zk_310_30 : zokN 310 30 ((cd 310).drop 30) = true := by decide +kernel
theorem zk_310_60 : zokN 310 30 ((cd 310).drop 60) = true := by decide +kernel
theorem zk_310_90 : zokN 310 30 ((cd 310).drop 90) = true := by decide +kernel
theorem zk_310 : zokL 310 (cd 310) = true := by
  have h120 : zokL 310 ((cd 310).drop 120) = true := rfl
  have h90 : zokL 310 ((cd 310).drop 90) = true := zokN_join 30 _ zk_310_90 (by rw [List.drop_drop]; exact h120)
  have h60 : zokL 310 ((cd 310).drop 60) = true := zokN_join 30 _ zk_310_60 (by rw [List.drop_drop]; exact h90)
  have h30 : zokL 310 ((cd 310).drop 30) = true := zokN_join 30 _ zk_310_30 (by rw [List.drop_drop]; exact h60)
  have h0 : zokL 310 ((cd 310).drop 0) = true := zokN_join 30 _ zk_310_0 (by rw [List.drop_drop]; exact h30)
  exact h0
theorem zk_311_0 : zokN 311 30 ((cd 311).drop 0) = true := by decide +kernel
theorem zk_311 : zokL 311 (cd 311) = true := by
  have h30 : zokL 311 ((cd 311).drop 30) = true := rfl
  have h0 : zokL 311 ((cd 311).drop 0) = true := zokN_join 30 _ zk_311_0 (by rw [List.drop_drop]; exact h30)
  exact h0
theorem zk_312_0 : zokN 312 30 ((cd 312).drop 0) = true := by decide +kernel
theorem zk_312_30 : zokN 312 30 ((cd 312).drop 30) = true := by decide +kernel
theorem zk_312 : zokL 312 (cd 312) = true := by
  have h60 : zokL 312 ((cd 312).drop 60) = true := rfl
  have h30 : zokL 312 ((cd 312).drop 30) = true := zokN_join 30 _ zk_312_30 (by rw [List.drop_drop]; exact h60)
  have h0 : zokL 312 ((cd 312).drop 0) = true := zokN_join 30 _ zk_312_0 (by rw [List.drop_drop]; exact h30)
  exact h0
theorem zk_313_0 : zokN 313 30 ((cd 313).drop 0) = true := by decide +kernel
theorem zk_313_30 : zokN 313 30 ((cd 313).drop 30) = true := by decide +kernel
theorem zk_313_60 : zokN 313 30 ((cd 313).drop 60) = true := by decide +kernel
theorem zk_313_90 : zokN 313 30 ((cd 313).drop 90) = true := by decide +kernel
theorem zk_313_120 : zokN 313 30 ((cd 313).drop 120) = true := by decide +kernel
theorem zk_313_150 : zokN 313 30 ((cd 313).drop 150) = true := by decide +kernel
theorem zk_313_180 : zokN 313 30 ((cd 313).drop 180) = true := by decide +kernel
theorem zk_313_210 : zokN 313 30 ((cd 313).drop 210) = true := by decide +kernel
theorem zk_313_240 : zokN 313 30 ((cd 313).drop 240) = true := by decide +kernel
theorem zk_313 : zokL 313 (cd 313) = true := by
  have h270 : zokL 313 ((cd 313).drop 270) = true := rfl
  have h240 : zokL 313 ((cd 313).drop 240) = true := zokN_join 30 _ zk_313_240 (by rw [List.drop_drop]; exact h270)
  have h210 : zokL 313 ((cd 313).drop 210) = true := zokN_join 30 _ zk_313_210 (by rw [List.drop_drop]; exact h240)
  have h180 : zokL 313 ((cd 313).drop 180) = true := zokN_join 30 _ zk_313_180 (by rw [List.drop_drop]; exact h210)
  have h150 : zokL 313 ((cd 313).drop 150) = true := zokN_join 30 _ zk_313_150 (by rw [List.drop_drop]; exact h180)
  have h120 : zokL 313 ((cd 313).drop 120) = true := zokN_join 30 _ zk_313_120 (by rw [List.drop_drop]; exact h150)
  have h90 : zokL 313 ((cd 313).drop 90) = true := zokN_join 30 _ zk_313_90 (by rw [List.drop_drop]; exact h120)
  have h60 : zokL 313 ((cd 313).drop 60) = true := zokN_join 30 _ zk_313_60 (by rw [List.drop_drop]; exact h90)
  have h30 : zokL 313 ((cd 313).drop 30) = true := zokN_join 30 _ zk_313_30 (by rw [List.drop_drop]; exact h60)
  have h0 : zokL 313 ((cd 313).drop 0) = true := zokN_join 30 _ zk_313_0 (by rw [List.drop_drop]; exact h30)
  exact h0
theorem zk_314_0 : zokN 314 30 ((cd 314).drop 0) = true := by decide +kernel
theorem zk_314 : zokL 314 (cd 314) = true := by
  have h30 : zokL 314 ((cd 314).drop 30) = true := rfl
  have h0 : zokL 314 ((cd 314).drop 0) = true := zokN_join 30 _ zk_314_0 (by rw [List.drop_drop]; exact h30)
  exact h0
theorem zk_315_0 : zokN 315 30 ((cd 315).drop 0) = true := by decide +kernel
theorem zk_315 : zokL 315 (cd 315) = true := by
  have h30 : zokL 315 ((cd 315).drop 30) = true := rfl
  have h0 : zokL 315 ((cd 315).drop 0) = true := zokN_join 30 _ zk_315_0 (by rw [List.drop_drop]; exact h30)
  exact h0
theorem zk_316_0 : zokN 316 30 ((cd 316).drop 0) = true := by decide +kernel
theorem zk_316_30 : zokN 316 30 ((cd 316).drop 30) = true := by decide +kernel
theorem zk_316 : zokL 316 (cd 316) = true := by
  have h60 : zokL 316 ((cd 316).drop 60) = true := rfl
  have h30 : zokL 316 ((cd 316).drop 30) = true := zokN_join 30 _ zk_316_30 (by rw [List.drop_drop]; exact h60)
  have h0 : zokL 316 ((cd 316).drop 0) = true := zokN_join 30 _ zk_316_0 (by rw [List.drop_drop]; exact h30)
  exact h0
theorem zk_317_0 : zokN 317 30 ((cd 317).drop 0) = true := by decide +kernel
theorem zk_317_30 : zokN 317 30 ((cd 317).drop 30) = true := by decide +kernel
theorem zk_317 : zokL 317 (cd 317) = true := by
  have h60 : zokL 317 ((cd 317).drop 60) = true := rfl
  have h30 : zokL 317 ((cd 317).drop 30) = true := zokN_join 30 _ zk_317_30 (by rw [List.drop_drop]; exact h60)
  have h0 : zokL 317 ((cd 317).drop 0) = true := zokN_join 30 _ zk_317_0 (by rw [List.drop_drop]; exact h30)
  exact h0
theorem zk_318_0 : zokN 318 30 ((cd 318).drop 0) = true := by decide +kernel
theorem zk_318_30 : zokN 318 30 ((cd 318).drop 30) = true := by decide +kernel
theorem zk_318_60 : zokN 318 30 ((cd 318).drop 60) = true := by decide +kernel
theorem zk_318_90 : zokN 318 30 ((cd 318).drop 90) = true := by decide +kernel
theorem zk_318 : zokL 318 (cd 318) = true := by
  have h120 : zokL 318 ((cd 318).drop 120) = true := rfl
  have h90 : zokL 318 ((cd 318).drop 90) = true := zokN_join 30 _ zk_318_90 (by rw [List.drop_drop]; exact h120)
  have h60 : zokL 318 ((cd 318).drop 60) = true := zokN_join 30 _ zk_318_60 (by rw [List.drop_drop]; exact h90)
  have h30 : zokL 318 ((cd 318).drop 30) = true := zokN_join 30 _ zk_318_30 (by rw [List.drop_drop]; exact h60)
  have h0 : zokL 318 ((cd 318).drop 0) = true := zokN_join 30 _ zk_318_0 (by rw [List.drop_drop]; exact h30)
  exact h0
theorem zk_319_0 : zokN 319 30 ((cd 319).drop 0) = true := by decide +kernel
theorem zk_319_30 : zokN 319 30 ((cd 319).drop 30) = true := by decide +kernel
theorem zk_319_60 : zokN 319 30 ((cd 319).drop 60) = true := by decide +kernel
theorem zk_319 : zokL 319 (cd 319) = true := by
  have h90 : zokL 319 ((cd 319).drop 90) = true := rfl
  have h60 : zokL 319 ((cd 319).drop 60) = true := zokN_join 30 _ zk_319_60 (by rw [List.drop_drop]; exact h90)
  have h30 : zokL 319 ((cd 319).drop 30) = true := zokN_join 30 _ zk_319_30 (by rw [List.drop_drop]; exact h60)
  have h0 : zokL 319 ((cd 319).drop 0) = true := zokN_join 30 _ zk_319_0 (by rw [List.drop_drop]; exact h30)
  exact h0
theorem zk_320_0 : zokN 320 30 ((cd 320).drop 0) = true := by decide +kernel
theorem zk_320_30 : zokN 320 30 ((cd 320).drop 30) = true := by decide +kernel
theorem zk_320_60 : zokN 320 30 ((cd 320).drop 60) = true := by decide +kernel
theorem zk_320_90 : zokN 320 30 ((cd 320).drop 90) = true := by decide +kernel
theorem zk_320 : zokL 320 (cd 320) = true := by
  have h120 : zokL 320 ((cd 320).drop 120) = true := rfl
  have h90 : zokL 320 ((cd 320).drop 90) = true := zokN_join 30 _ zk_320_90 (by rw [List.drop_drop]; exact h120)
  have h60 : zokL 320 ((cd 320).drop 60) = true := zokN_join 30 _ zk_320_60 (by rw [List.drop_drop]; exact h90)
  have h30 : zokL 320 ((cd 320).drop 30) = true := zokN_join 30 _ zk_320_30 (by rw [List.drop_drop]; exact h60)
  have h0 : zokL 320 ((cd 320).drop 0) = true := zokN_join 30 _ zk_320_0 (by rw [List.drop_drop]; exact h30)
  exact h0
theorem zk_321_0 : zokN 321 30 ((cd 321).drop 0) = true := by decide +kernel
theorem zk_321_30 : zokN 321 30 ((cd 321).drop 30) = true := by decide +kernel
theorem zk_321_60 : zokN 321 30 ((cd 321).drop 60) = true := by decide +kernel
theorem zk_321_90 : zokN 321 30 ((cd 321).drop 90) = true := by decide +kernel
theorem zk_321_120 : zokN 321 30 ((cd 321).drop 120) = true := by decide +kernel
theorem zk_321 : zokL 321 (cd 321) = true := by
  have h150 : zokL 321 ((cd 321).drop 150) = true := rfl
  have h120 : zokL 321 ((cd 321).drop 120) = true := zokN_join 30 _ zk_321_120 (by rw [List.drop_drop]; exact h150)
  have h90 : zokL 321 ((cd 321).drop 90) = true := zokN_join 30 _ zk_321_90 (by rw [List.drop_drop]; exact h120)
  have h60 : zokL 321 ((cd 321).drop 60) = true := zokN_join 30 _ zk_321_60 (by rw [List.drop_drop]; exact h90)
  have h30 : zokL 321 ((cd 321).drop 30) = true := zokN_join 30 _ zk_321_30 (by rw [List.drop_drop]; exact h60)
  have h0 : zokL 321 ((cd 321).drop 0) = true := zokN_join 30 _ zk_321_0 (by rw [List.drop_drop]; exact h30)
  exact h0
theorem zk_322_0 : zokN 322 30 ((cd 322).drop 0) = true := by decide +kernel
theorem zk_322_30 : zokN 322 30 ((cd 322).drop 30) = true := by decide +kernel
theorem zk_322_60 : zokN 322 30 ((cd 322).drop 60) = true := by decide +kernel
theorem zk_322_90 : zokN 322 30 ((cd 322).drop 90) = true := by decide +kernel
theorem zk_322_120 : zokN 322 30 ((cd 322).drop 120) = true := by decide +kernel
theorem zk_322_150 : zokN 322 30 ((cd 322).drop 150) = true := by decide +kernel
theorem zk_322 : zokL 322 (cd 322) = true := by
  have h180 : zokL 322 ((cd 322).drop 180) = true := rfl
  have h150 : zokL 322 ((cd 322).drop 150) = true := zokN_join 30 _ zk_322_150 (by rw [List.drop_drop]; exact h180)
  have h120 : zokL 322 ((cd 322).drop 120) = true := zokN_join 30 _ zk_322_120 (by rw [List.drop_drop]; exact h150)
  have h90 : zokL 322 ((cd 322).drop 90) = true := zokN_join 30 _ zk_322_90 (by rw [List.drop_drop]; exact h120)
  have h60 : zokL 322 ((cd 322).drop 60) = true := zokN_join 30 _ zk_322_60 (by rw [List.drop_drop]; exact h90)
  have h30 : zokL 322 ((cd 322).drop 30) = true := zokN_join 30 _ zk_322_30 (by rw [List.drop_drop]; exact h60)
  have h0 : zokL 322 ((cd 322).drop 0) = true := zokN_join 30 _ zk_322_0 (by rw [List.drop_drop]; exact h30)
  exact h0
theorem zk_323_0 : zokN 323 30 ((cd 323).drop 0) = true := by decide +kernel
theorem zk_323_30 : zokN 323 30 ((cd 323).drop 30) = true := by decide +kernel
theorem zk_323_60 : zokN 323 30 ((cd 323).drop 60) = true := by decide +kernel
theorem zk_323_90 : zokN 323 30 ((cd 323).drop 90) = true := by decide +kernel
theorem zk_323 : zokL 323 (cd 323) = true := by
  have h120 : zokL 323 ((cd 323).drop 120) = true := rfl
  have h90 : zokL 323 ((cd 323).drop 90) = true := zokN_join 30 _ zk_323_90 (by rw [List.drop_drop]; exact h120)
  have h60 : zokL 323 ((cd 323).drop 60) = true := zokN_join 30 _ zk_323_60 (by rw [List.drop_drop]; exact h90)
  have h30 : zokL 323 ((cd 323).drop 30) = true := zokN_join 30 _ zk_323_30 (by rw [List.drop_drop]; exact h60)
  have h0 : zokL 323 ((cd 323).drop 0) = true := zokN_join 30 _ zk_323_0 (by rw [List.drop_drop]; exact h30)
  exact h0
theorem zk_324_0 : zokN 324 30 ((cd 324).drop 0) = true := by decide +kernel
theorem zk_324_30 : zokN 324 30 ((cd 324).drop 30) = true := by decide +kernel
theorem zk_324_60 : zokN 324 30 ((cd 324).drop 60) = true := by decide +kernel
theorem zk_324_90 : zokN 324 30 ((cd 324).drop 90) = true := by decide +kernel
theorem zk_324_120 : zokN 324 30 ((cd 324).drop 120) = true := by decide +kernel
theorem zk_324_150 : zokN 324 30 ((cd 324).drop 150) = true := by decide +kernel
theorem zk_324_180 : zokN 324 30 ((cd 324).drop 180) = true := by decide +kernel
theorem zk_324 : zokL 324 (cd 324) = true := by
  have h210 : zokL 324 ((cd 324).drop 210) = true := rfl
  have h180 : zokL 324 ((cd 324).drop 180) = true := zokN_join 30 _ zk_324_180 (by rw [List.drop_drop]; exact h210)
  have h150 : zokL 324 ((cd 324).drop 150) = true := zokN_join 30 _ zk_324_150 (by rw [List.drop_drop]; exact h180)
  have h120 : zokL 324 ((cd 324).drop 120) = true := zokN_join 30 _ zk_324_120 (by rw [List.drop_drop]; exact h150)
  have h90 : zokL 324 ((cd 324).drop 90) = true := zokN_join 30 _ zk_324_90 (by rw [List.drop_drop]; exact h120)
  have h60 : zokL 324 ((cd 324).drop 60) = true := zokN_join 30 _ zk_324_60 (by rw [List.drop_drop]; exact h90)
  have h30 : zokL 324 ((cd 324).drop 30) = true := zokN_join 30 _ zk_324_30 (by rw [List.drop_drop]; exact h60)
  have h0 : zokL 324 ((cd 324).drop 0) = true := zokN_join 30 _ zk_324_0 (by rw [List.drop_drop]; exact h30)
  exact h0
theorem zk_325_0 : zokN 325 30 ((cd 325).drop 0) = true := by decide +kernel
theorem zk_325_30 : zokN 325 30 ((cd 325).drop 30) = true := by decide +kernel
theorem zk_325_60 : zokN 325 30 ((cd 325).drop 60) = true := by decide +kernel
theorem zk_325 : zokL 325 (cd 325) = true := by
  have h90 : zokL 325 ((cd 325).drop 90) = true := rfl
  have h60 : zokL 325 ((cd 325).drop 60) = true := zokN_join 30 _ zk_325_60 (by rw [List.drop_drop]; exact h90)
  have h30 : zokL 325 ((cd 325).drop 30) = true := zokN_join 30 _ zk_325_30 (by rw [List.drop_drop]; exact h60)
  have h0 : zokL 325 ((cd 325).drop 0) = true := zokN_join 30 _ zk_325_0 (by rw [List.drop_drop]; exact h30)
  exact h0
theorem zk_326_0 : zokN 326 30 ((cd 326).drop 0) = true := by decide +kernel
theorem zk_326_30 : zokN 326 30 ((cd 326).drop 30) = true := by decide +kernel
theorem zk_326_60 : zokN 326 30 ((cd 326).drop 60) = true := by decide +kernel
theorem zk_326 : zokL 326 (cd 326) = true := by
  have h90 : zokL 326 ((cd 326).drop 90) = true := rfl
  have h60 : zokL 326 ((cd 326).drop 60) = true := zokN_join 30 _ zk_326_60 (by rw [List.drop_drop]; exact h90)
  have h30 : zokL 326 ((cd 326).drop 30) = true := zokN_join 30 _ zk_326_30 (by rw [List.drop_drop]; exact h60)
  have h0 : zokL 326 ((cd 326).drop 0) = true := zokN_join 30 _ zk_326_0 (by rw [List.drop_drop]; exact h30)
  exact h0
theorem zk_327_0 : zokN 327 30 ((cd 327).drop 0) = true := by decide +kernel
theorem zk_327_30 : zokN 327 30 ((cd 327).drop 30) = true := by decide +kernel
theorem zk_327_60 : zokN 327 30 ((cd 327).drop 60) = true := by decide +kernel
theorem zk_327 : zokL 327 (cd 327) = true := by
  have h90 : zokL 327 ((cd 327).drop 90) = true := rfl
  have h60 : zokL 327 ((cd 327).drop 60) = true := zokN_join 30 _ zk_327_60 (by rw [List.drop_drop]; exact h90)
  have h30 : zokL 327 ((cd 327).drop 30) = true := zokN_join 30 _ zk_327_30 (by rw [List.drop_drop]; exact h60)
  have h0 : zokL 327 ((cd 327).drop 0) = true := zokN_join 30 _ zk_327_0 (by rw [List.drop_drop]; exact h30)
  exact h0
theorem zk_328_0 : zokN 328 30 ((cd 328).drop 0) = true := by decide +kernel
theorem zk_328 : zokL 328 (cd 328) = true := by
  have h30 : zokL 328 ((cd 328).drop 30) = true := rfl
  have h0 : zokL 328 ((cd 328).drop 0) = true := zokN_join 30 _ zk_328_0 (by rw [List.drop_drop]; exact h30)
  exact h0
theorem zk_329_0 : zokN 329 30 ((cd 329).drop 0) = true := by decide +kernel
theorem zk_329_30 : zokN 329 30 ((cd 329).drop 30) = true := by decide +kernel
theorem zk_329_60 : zokN 329 30 ((cd 329).drop 60) = true := by decide +kernel
theorem zk_329 : zokL 329 (cd 329) = true := by
  have h90 : zokL 329 ((cd 329).drop 90) = true := rfl
  have h60 : zokL 329 ((cd 329).drop 60) = true := zokN_join 30 _ zk_329_60 (by rw [List.drop_drop]; exact h90)
  have h30 : zokL 329 ((cd 329).drop 30) = true := zokN_join 30 _ zk_329_30 (by rw [List.drop_drop]; exact h60)
  have h0 : zokL 329 ((cd 329).drop 0) = true := zokN_join 30 _ zk_329_0 (by rw [List.drop_drop]; exact h30)
  exact h0
theorem zk_330_0 : zokN 330 30 ((cd 330).drop 0) = true := by decide +kernel
theorem zk_330_30 : zokN 330 30 ((cd 330).drop 30) = true := by decide +kernel
theorem zk_330 : zokL 330 (cd 330) = true := by
  have h60 : zokL 330 ((cd 330).drop 60) = true := rfl
  have h30 : zokL 330 ((cd 330).drop 30) = true := zokN_join 30 _ zk_330_30 (by rw [List.drop_drop]; exact h60)
  have h0 : zokL 330 ((cd 330).drop 0) = true := zokN_join 30 _ zk_330_0 (by rw [List.drop_drop]; exact h30)
  exact h0
theorem zk_331_0 : zokN 331 30 ((cd 331).drop 0) = true := by decide +kernel
theorem zk_331 : zokL 331 (cd 331) = true := by
  have h30 : zokL 331 ((cd 331).drop 30) = true := rfl
  have h0 : zokL 331 ((cd 331).drop 0) = true := zokN_join 30 _ zk_331_0 (by rw [List.drop_drop]; exact h30)
  exact h0
theorem zk_332_0 : zokN 332 30 ((cd 332).drop 0) = true := by decide +kernel
theorem zk_332_30 : zokN 332 30 ((cd 332).drop 30) = true := by decide +kernel
theorem zk_332_60 : zokN 332 30 ((cd 332).drop 60) = true := by decide +kernel
theorem zk_332_90 : zokN 332 30 ((cd 332).drop 90) = true := by decide +kernel
theorem zk_332_120 : zokN 332 30 ((cd 332).drop 120) = true := by decide +kernel
theorem zk_332_150 : zokN 332 30 ((cd 332).drop 150) = true := by decide +kernel
theorem zk_332 : zokL 332 (cd 332) = true := by
  have h180 : zokL 332 ((cd 332).drop 180) = true := rfl
  have h150 : zokL 332 ((cd 332).drop 150) = true := zokN_join 30 _ zk_332_150 (by rw [List.drop_drop]; exact h180)
  have h120 : zokL 332 ((cd 332).drop 120) = true := zokN_join 30 _ zk_332_120 (by rw [List.drop_drop]; exact h150)
  have h90 : zokL 332 ((cd 332).drop 90) = true := zokN_join 30 _ zk_332_90 (by rw [List.drop_drop]; exact h120)
  have h60 : zokL 332 ((cd 332).drop 60) = true := zokN_join 30 _ zk_332_60 (by rw [List.drop_drop]; exact h90)
  have h30 : zokL 332 ((cd 332).drop 30) = true := zokN_join 30 _ zk_332_30 (by rw [List.drop_drop]; exact h60)
  have h0 : zokL 332 ((cd 332).drop 0) = true := zokN_join 30 _ zk_332_0 (by rw [List.drop_drop]; exact h30)
  exact h0
theorem zk_333_0 : zokN 333 30 ((cd 333).drop 0) = true := by decide +kernel
theorem zk_333_30 : zokN 333 30 ((cd 333).drop 30) = true := by decide +kernel
theorem zk_333 : zokL 333 (cd 333) = true := by
  have h60 : zokL 333 ((cd 333).drop 60) = true := rfl
  have h30 : zokL 333 ((cd 333).drop 30) = true := zokN_join 30 _ zk_333_30 (by rw [List.drop_drop]; exact h60)
  have h0 : zokL 333 ((cd 333).drop 0) = true := zokN_join 30 _ zk_333_0 (by rw [List.drop_drop]; exact h30)
  exact h0
theorem zk_334_0 : zokN 334 30 ((cd 334).drop 0) = true := by decide +kernel
theorem zk_334_30 : zokN 334 30 ((cd 334).drop 30) = true := by decide +kernel
theorem zk_334 : zokL 334 (cd 334) = true := by
  have h60 : zokL 334 ((cd 334).drop 60) = true := rfl
  have h30 : zokL 334 ((cd 334).drop 30) = true := zokN_join 30 _ zk_334_30 (by rw [List.drop_drop]; exact h60)
  have h0 : zokL 334 ((cd 334).drop 0) = true := zokN_join 30 _ zk_334_0 (by rw [List.drop_drop]; exact h30)
  exact h0
theorem zk_335_0 : zokN 335 30 ((cd 335).drop 0) = true := by decide +kernel
theorem zk_335_30 : zokN 335 30 ((cd 335).drop 30) = true := by decide +kernel
theorem zk_335_60 : zokN 335 30 ((cd 335).drop 60) = true := by decide +kernel
theorem zk_335_90 : zokN 335 30 ((cd 335).drop 90) = true := by decide +kernel
theorem zk_335_120 : zokN 335 30 ((cd 335).drop 120) = true := by decide +kernel
theorem zk_335 : zokL 335 (cd 335) = true := by
  have h150 : zokL 335 ((cd 335).drop 150) = true := rfl
  have h120 : zokL 335 ((cd 335).drop 120) = true := zokN_join 30 _ zk_335_120 (by rw [List.drop_drop]; exact h150)
  have h90 : zokL 335 ((cd 335).drop 90) = true := zokN_join 30 _ zk_335_90 (by rw [List.drop_drop]; exact h120)
  have h60 : zokL 335 ((cd 335).drop 60) = true := zokN_join 30 _ zk_335_60 (by rw [List.drop_drop]; exact h90)
  have h30 : zokL 335 ((cd 335).drop 30) = true := zokN_join 30 _ zk_335_30 (by rw [List.drop_drop]; exact h60)
  have h0 : zokL 335 ((cd 335).drop 0) = true := zokN_join 30 _ zk_335_0 (by rw [List.drop_drop]; exact h30)
  exact h0
theorem zk_336_0 : zokN 336 30 ((cd 336).drop 0) = true := by decide +kernel
theorem zk_336 : zokL 336 (cd 336) = true := by
  have h30 : zokL 336 ((cd 336).drop 30) = true := rfl
  have h0 : zokL 336 ((cd 336).drop 0) = true := zokN_join 30 _ zk_336_0 (by rw [List.drop_drop]; exact h30)
  exact h0
theorem zk_337_0 : zokN 337 30 ((cd 337).drop 0) = true := by decide +kernel
theorem zk_337 : zokL 337 (cd 337) = true := by
  have h30 : zokL 337 ((cd 337).drop 30) = true := rfl
  have h0 : zokL 337 ((cd 337).drop 0) = true := zokN_join 30 _ zk_337_0 (by rw [List.drop_drop]; exact h30)
  exact h0
theorem zk_338_0 : zokN 338 30 ((cd 338).drop 0) = true := by decide +kernel
theorem zk_338 : zokL 338 (cd 338) = true := by
  have h30 : zokL 338 ((cd 338).drop 30) = true := rfl
  have h0 : zokL 338 ((cd 338).drop 0) = true := zokN_join 30 _ zk_338_0 (by rw [List.drop_drop]; exact h30)
  exact h0
theorem zk_339_0 : zokN 339 30 ((cd 339).drop 0) = true := by decide +kernel
theorem zk_339 : zokL 339 (cd 339) = true := by
  have h30 : zokL 339 ((cd 339).drop 30) = true := rfl
  have h0 : zokL 339 ((cd 339).drop 0) = true := zokN_join 30 _ zk_339_0 (by rw [List.drop_drop]; exact h30)
  exact h0
theorem zk_340_0 : zokN 340 30 ((cd 340).drop 0) = true := by decide +kernel
theorem zk_340 : zokL 340 (cd 340) = true := by
  have h30 : zokL 340 ((cd 340).drop 30) = true := rfl
  have h0 : zokL 340 ((cd 340).drop 0) = true := zokN_join 30 _ zk_340_0 (by rw [List.drop_drop]; exact h30)
  exact h0
theorem zk_341_0 : zokN 341 30 ((cd 341).drop 0) = true := by decide +kernel
theorem zk_341_30 : zokN 341 30 ((cd 341).drop 30) = true := by decide +kernel
theorem zk_341_60 : zokN 341 30 ((cd 341).drop 60) = true := by decide +kernel
theorem zk_341 : zokL 341 (cd 341) = true := by
  have h90 : zokL 341 ((cd 341).drop 90) = true := rfl
  have h60 : zokL 341 ((cd 341).drop 60) = true := zokN_join 30 _ zk_341_60 (by rw [List.drop_drop]; exact h90)
  have h30 : zokL 341 ((cd 341).drop 30) = true := zokN_join 30 _ zk_341_30 (by rw [List.drop_drop]; exact h60)
  have h0 : zokL 341 ((cd 341).drop 0) = true := zokN_join 30 _ zk_341_0 (by rw [List.drop_drop]; exact h30)
  exact h0
theorem zk_342_0 : zokN 342 30 ((cd 342).drop 0) = true := by decide +kernel
theorem zk_342 : zokL 342 (cd 342) = true := by
  have h30 : zokL 342 ((cd 342).drop 30) = true := rfl
  have h0 : zokL 342 ((cd 342).drop 0) = true := zokN_join 30 _ zk_342_0 (by rw [List.drop_drop]; exact h30)
  exact h0
theorem zk_343_0 : zokN 343 30 ((cd 343).drop 0) = true := by decide +kernel
theorem zk_343_30 : zokN 343 30 ((cd 343).drop 30) = true := by decide +kernel
theorem zk_343_60 : zokN 343 30 ((cd 343).drop 60) = true := by decide +kernel
theorem zk_343_90 : zokN 343 30 ((cd 343).drop 90) = true := by decide +kernel
theorem zk_343_120 : zokN 343 30 ((cd 343).drop 120) = true := by decide +kernel
theorem zk_343 : zokL 343 (cd 343) = true := by
  have h150 : zokL 343 ((cd 343).drop 150) = true := rfl
  have h120 : zokL 343 ((cd 343).drop 120) = true := zokN_join 30 _ zk_343_120 (by rw [List.drop_drop]; exact h150)
  have h90 : zokL 343 ((cd 343).drop 90) = true := zokN_join 30 _ zk_343_90 (by rw [List.drop_drop]; exact h120)
  have h60 : zokL 343 ((cd 343).drop 60) = true := zokN_join 30 _ zk_343_60 (by rw [List.drop_drop]; exact h90)
  have h30 : zokL 343 ((cd 343).drop 30) = true := zokN_join 30 _ zk_343_30 (by rw [List.drop_drop]; exact h60)
  have h0 : zokL 343 ((cd 343).drop 0) = true := zokN_join 30 _ zk_343_0 (by rw [List.drop_drop]; exact h30)
  exact h0
theorem zk_344_0 : zokN 344 30 ((cd 344).drop 0) = true := by decide +kernel
theorem zk_344 : zokL 344 (cd 344) = true := by
  have h30 : zokL 344 ((cd 344).drop 30) = true := rfl
  have h0 : zokL 344 ((cd 344).drop 0) = true := zokN_join 30 _ zk_344_0 (by rw [List.drop_drop]; exact h30)
  exact h0
theorem zk_345_0 : zokN 345 30 ((cd 345).drop 0) = true := by decide +kernel
theorem zk_345_30 : zokN 345 30 ((cd 345).drop 30) = true := by decide +kernel
theorem zk_345_60 : zokN 345 30 ((cd 345).drop 60) = true := by decide +kernel
theorem zk_345 : zokL 345 (cd 345) = true := by
  have h90 : zokL 345 ((cd 345).drop 90) = true := rfl
  have h60 : zokL 345 ((cd 345).drop 60) = true := zokN_join 30 _ zk_345_60 (by rw [List.drop_drop]; exact h90)
  have h30 : zokL 345 ((cd 345).drop 30) = true := zokN_join 30 _ zk_345_30 (by rw [List.drop_drop]; exact h60)
  have h0 : zokL 345 ((cd 345).drop 0) = true := zokN_join 30 _ zk_345_0 (by rw [List.drop_drop]; exact h30)
  exact h0
theorem zk_346_0 : zokN 346 30 ((cd 346).drop 0) = true := by decide +kernel
theorem zk_346 : zokL 346 (cd 346) = true := by
  have h30 : zokL 346 ((cd 346).drop 30) = true := rfl
  have h0 : zokL 346 ((cd 346).drop 0) = true := zokN_join 30 _ zk_346_0 (by rw [List.drop_drop]; exact h30)
  exact h0
theorem zk_347_0 : zokN 347 30 ((cd 347).drop 0) = true := by decide +kernel
theorem zk_347_30 : zokN 347 30 ((cd 347).drop 30) = true := by decide +kernel
theorem zk_347 : zokL 347 (cd 347) = true := by
  have h60 : zokL 347 ((cd 347).drop 60) = true := rfl
  have h30 : zokL 347 ((cd 347).drop 30) = true := zokN_join 30 _ zk_347_30 (by rw [List.drop_drop]; exact h60)
  have h0 : zokL 347 ((cd 347).drop 0) = true := zokN_join 30 _ zk_347_0 (by rw [List.drop_drop]; exact h30)
  exact h0
theorem zk_348_0 : zokN 348 30 ((cd 348).drop 0) = true := by decide +kernel
theorem zk_348_30 : zokN 348 30 ((cd 348).drop 30) = true := by decide +kernel
theorem zk_348_60 : zokN 348 30 ((cd 348).drop 60) = true := by decide +kernel
theorem zk_348 : zokL 348 (cd 348) = true := by
  have h90 : zokL 348 ((cd 348).drop 90) = true := rfl
  have h60 : zokL 348 ((cd 348).drop 60) = true := zokN_join 30 _ zk_348_60 (by rw [List.drop_drop]; exact h90)
  have h30 : zokL 348 ((cd 348).drop 30) = true := zokN_join 30 _ zk_348_30 (by rw [List.drop_drop]; exact h60)
  have h0 : zokL 348 ((cd 348).drop 0) = true := zokN_join 30 _ zk_348_0 (by rw [List.drop_drop]; exact h30)
  exact h0
theorem zk_349_0 : zokN 349 30 ((cd 349).drop 0) = true := by decide +kernel
theorem zk_349_30 : zokN 349 30 ((cd 349).drop 30) = true := by decide +kernel
theorem zk_349_60 : zokN 349 30 ((cd 349).drop 60) = true := by decide +kernel
theorem zk_349 : zokL 349 (cd 349) = true := by
  have h90 : zokL 349 ((cd 349).drop 90) = true := rfl
  have h60 : zokL 349 ((cd 349).drop 60) = true := zokN_join 30 _ zk_349_60 (by rw [List.drop_drop]; exact h90)
  have h30 : zokL 349 ((cd 349).drop 30) = true := zokN_join 30 _ zk_349_30 (by rw [List.drop_drop]; exact h60)
  have h0 : zokL 349 ((cd 349).drop 0) = true := zokN_join 30 _ zk_349_0 (by rw [List.drop_drop]; exact h30)
  exact h0
theorem zk_350_0 : zokN 350 30 ((cd 350).drop 0) = true := by decide +kernel
theorem zk_350 : zokL 350 (cd 350) = true := by
  have h30 : zokL 350 ((cd 350).drop 30) = true := rfl
  have h0 : zokL 350 ((cd 350).drop 0) = true := zokN_join 30 _ zk_350_0 (by rw [List.drop_drop]; exact h30)
  exact h0
theorem zk_351_0 : zokN 351 30 ((cd 351).drop 0) = true := by decide +kernel
theorem zk_351 : zokL 351 (cd 351) = true := by
  have h30 : zokL 351 ((cd 351).drop 30) = true := rfl
  have h0 : zokL 351 ((cd 351).drop 0) = true := zokN_join 30 _ zk_351_0 (by rw [List.drop_drop]; exact h30)
  exact h0
theorem zk_352_0 : zokN 352 30 ((cd 352).drop 0) = true := by decide +kernel
theorem zk_352_30 : zokN 352 30 ((cd 352).drop 30) = true := by decide +kernel
theorem zk_352_60 : zokN 352 30 ((cd 352).drop 60) = true := by decide +kernel
theorem zk_352 : zokL 352 (cd 352) = true := by
  have h90 : zokL 352 ((cd 352).drop 90) = true := rfl
  have h60 : zokL 352 ((cd 352).drop 60) = true := zokN_join 30 _ zk_352_60 (by rw [List.drop_drop]; exact h90)
  have h30 : zokL 352 ((cd 352).drop 30) = true := zokN_join 30 _ zk_352_30 (by rw [List.drop_drop]; exact h60)
  have h0 : zokL 352 ((cd 352).drop 0) = true := zokN_join 30 _ zk_352_0 (by rw [List.drop_drop]; exact h30)
  exact h0
theorem zk_353_0 : zokN 353 30 ((cd 353).drop 0) = true := by decide +kernel
theorem zk_353_30 : zokN 353 30 ((cd 353).drop 30) = true := by decide +kernel
theorem zk_353_60 : zokN 353 30 ((cd 353).drop 60) = true := by decide +kernel
theorem zk_353 : zokL 353 (cd 353) = true := by
  have h90 : zokL 353 ((cd 353).drop 90) = true := rfl
  have h60 : zokL 353 ((cd 353).drop 60) = true := zokN_join 30 _ zk_353_60 (by rw [List.drop_drop]; exact h90)
  have h30 : zokL 353 ((cd 353).drop 30) = true := zokN_join 30 _ zk_353_30 (by rw [List.drop_drop]; exact h60)
  have h0 : zokL 353 ((cd 353).drop 0) = true := zokN_join 30 _ zk_353_0 (by rw [List.drop_drop]; exact h30)
  exact h0
theorem zk_354_0 : zokN 354 30 ((cd 354).drop 0) = true := by decide +kernel
theorem zk_354 : zokL 354 (cd 354) = true := by
  have h30 : zokL 354 ((cd 354).drop 30) = true := rfl
  have h0 : zokL 354 ((cd 354).drop 0) = true := zokN_join 30 _ zk_354_0 (by rw [List.drop_drop]; exact h30)
  exact h0
theorem zk_355_0 : zokN 355 30 ((cd 355).drop 0) = true := by decide +kernel
theorem zk_355_30 : zokN 355 30 ((cd 355).drop 30) = true := by decide +kernel
theorem zk_355 : zokL 355 (cd 355) = true := by
  have h60 : zokL 355 ((cd 355).drop 60) = true := rfl
  have h30 : zokL 355 ((cd 355).drop 30) = true := zokN_join 30 _ zk_355_30 (by rw [List.drop_drop]; exact h60)
  have h0 : zokL 355 ((cd 355).drop 0) = true := zokN_join 30 _ zk_355_0 (by rw [List.drop_drop]; exact h30)
  exact h0
theorem zk_356_0 : zokN 356 30 ((cd 356).drop 0) = true := by decide +kernel
theorem zk_356_30 : zokN 356 30 ((cd 356).drop 30) = true := by decide +kernel
theorem zk_356_60 : zokN 356 30 ((cd 356).drop 60) = true := by decide +kernel
theorem zk_356 : zokL 356 (cd 356) = true := by
  have h90 : zokL 356 ((cd 356).drop 90) = true := rfl
  have h60 : zokL 356 ((cd 356).drop 60) = true := zokN_join 30 _ zk_356_60 (by rw [List.drop_drop]; exact h90)
  have h30 : zokL 356 ((cd 356).drop 30) = true := zokN_join 30 _ zk_356_30 (by rw [List.drop_drop]; exact h60)
  have h0 : zokL 356 ((cd 356).drop 0) = true := zokN_join 30 _ zk_356_0 (by rw [List.drop_drop]; exact h30)
  exact h0
theorem zk_357_0 : zokN 357 30 ((cd 357).drop 0) = true := by decide +kernel
theorem zk_357_30 : zokN 357 30 ((cd 357).drop 30) = true := by decide +kernel
theorem zk_357_60 : zokN 357 30 ((cd 357).drop 60) = true := by decide +kernel
theorem zk_357_90 : zokN 357 30 ((cd 357).drop 90) = true := by decide +kernel
theorem zk_357_120 : zokN 357 30 ((cd 357).drop 120) = true := by decide +kernel
theorem zk_357 : zokL 357 (cd 357) = true := by
  have h150 : zokL 357 ((cd 357).drop 150) = true := rfl
  have h120 : zokL 357 ((cd 357).drop 120) = true := zokN_join 30 _ zk_357_120 (by rw [List.drop_drop]; exact h150)
  have h90 : zokL 357 ((cd 357).drop 90) = true := zokN_join 30 _ zk_357_90 (by rw [List.drop_drop]; exact h120)
  have h60 : zokL 357 ((cd 357).drop 60) = true := zokN_join 30 _ zk_357_60 (by rw [List.drop_drop]; exact h90)
  have h30 : zokL 357 ((cd 357).drop 30) = true := zokN_join 30 _ zk_357_30 (by rw [List.drop_drop]; exact h60)
  have h0 : zokL 357 ((cd 357).drop 0) = true := zokN_join 30 _ zk_357_0 (by rw [List.drop_drop]; exact h30)
  exact h0
theorem zk_358_0 : zokN 358 30 ((cd 358).drop 0) = true := by decide +kernel
theorem zk_358 : zokL 358 (cd 358) = true := by
  have h30 : zokL 358 ((cd 358).drop 30) = true := rfl
  have h0 : zokL 358 ((cd 358).drop 0) = true := zokN_join 30 _ zk_358_0 (by rw [List.drop_drop]; exact h30)
  exact h0
theorem zk_359_0 : zokN 359 30 ((cd 359).drop 0) = true := by decide +kernel
theorem zk_359 : zokL 359 (cd 359) = true := by
  have h30 : zokL 359 ((cd 359).drop 30) = true := rfl
  have h0 : zokL 359 ((cd 359).drop 0) = true := zokN_join 30 _ zk_359_0 (by rw [List.drop_drop]; exact h30)
  exact h0
theorem zk_360_0 : zokN 360 30 ((cd 360).drop 0) = true := by decide +kernel
theorem zk_360_30 : zokN 360 30 ((cd 360).drop 30) = true := by decide +kernel
theorem zk_360 : zokL 360 (cd 360) = true := by
  have h60 : zokL 360 ((cd 360).drop 60) = true := rfl
  have h30 : zokL 360 ((cd 360).drop 30) = true := zokN_join 30 _ zk_360_30 (by rw [List.drop_drop]; exact h60)
  have h0 : zokL 360 ((cd 360).drop 0) = true := zokN_join 30 _ zk_360_0 (by rw [List.drop_drop]; exact h30)
  exact h0
theorem zk_361_0 : zokN 361 30 ((cd 361).drop 0) = true := by decide +kernel
theorem zk_361_30 : zokN 361 30 ((cd 361).drop 30) = true := by decide +kernel
theorem zk_361_60 : zokN 361 30 ((cd 361).drop 60) = true := by decide +kernel
theorem zk_361 : zokL 361 (cd 361) = true := by
  have h90 : zokL 361 ((cd 361).drop 90) = true := rfl
  have h60 : zokL 361 ((cd 361).drop 60) = true := zokN_join 30 _ zk_361_60 (by rw [List.drop_drop]; exact h90)
  have h30 : zokL 361 ((cd 361).drop 30) = true := zokN_join 30 _ zk_361_30 (by rw [List.drop_drop]; exact h60)
  have h0 : zokL 361 ((cd 361).drop 0) = true := zokN_join 30 _ zk_361_0 (by rw [List.drop_drop]; exact h30)
  exact h0
