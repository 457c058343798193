set_option maxRecDepth 100000
set_option maxHeartbeats 4000000
theorem zk_362_0 : zokN 362 30 ((cd 362).drop 0) = true := by decide +kernel
theorem zk_362_30 : zokN 362 30 ((cd 362).drop 30) = true := by decide +kernel
theorem zk_362_60 : zokN 362 30 ((cd 362).drop 60) = true := by decide +kernel
theorem zk_362_90 : zokN 362 30 ((cd 362).drop 90) = true := by decide +kernel
theorem zk_362 : zokL 362 (cd 362) = true := by
  have h120 : zokL 362 ((cd 362).drop 120) = true := rfl
  have h90 : zokL 362 ((cd 362).drop 90) = true := zokN_join 30 _ zk_362_90 (by rw [List.drop_drop]; exact h120)
  have h60 : zokL 362 ((cd 362).drop 60) = true := zokN_join 30 _ zk_362_60 (by rw [List.drop_drop]; exact h90)
  have h30 : zokL 362 ((cd 362).drop 30) = true := zokN_join 30 _ zk_362_30 (by rw [List.drop_drop]; exact h60)
  have h0 : zokL 362 ((cd 362).drop 0) = true := zokN_join 30 _ zk_362_0 (by rw [List.drop_drop]; exact h30)
  exact h0
theorem zk_363_0 : zokN 363 30 ((cd 363).drop 0) = true := by decide +kernel
theorem zk_363 : zokL 363 (cd 363) = true := by
  have h30 : zokL 363 ((cd 363).drop 30) = true := rfl
  have h0 : zokL 363 ((cd 363).drop 0) = true := zokN_join 30 _ zk_363_0 (by rw [List.drop_drop]; exact h30)
  exact h0
theorem zk_364_0 : zokN 364 30 ((cd 364).drop 0) = true := by decide +kernel
theorem zk_364 : zokL 364 (cd 364) = true := by
  have h30 : zokL 364 ((cd 364).drop 30) = true := rfl
  have h0 : zokL 364 ((cd 364).drop 0) = true := zokN_join 30 _ zk_364_0 (by rw [List.drop_drop]; exact h30)
  exact h0
theorem zk_365_0 : zokN 365 30 ((cd 365).drop 0) = true := by decide +kernel
theorem zk_365_30 : zokN 365 30 ((cd 365).drop 30) = true := by decide +kernel
theorem zk_365 : zokL 365 (cd 365) = true := by
  have h60 : zokL 365 ((cd 365).drop 60) = true := rfl
  have h30 : zokL 365 ((cd 365).drop 30) = true := zokN_join 30 _ zk_365_30 (by rw [List.drop_drop]; exact h60)
  have h0 : zokL 365 ((cd 365).drop 0) = true := zokN_join 30 _ zk_365_0 (by rw [List.drop_drop]; exact h30)
  exact h0
theorem zk_366_0 : zokN 366 30 ((cd 366).drop 0) = true := by decide +kernel
theorem zk_366 : zokL 366 (cd 366) = true := by
  have h30 : zokL 366 ((cd 366).drop 30) = true := rfl
  have h0 : zokL 366 ((cd 366).drop 0) = true := zokN_join 30 _ zk_366_0 (by rw [List.drop_drop]; exact h30)
  exact h0
theorem zk_367_0 : zokN 367 30 ((cd 367).drop 0) = true := by decide +kernel
theorem zk_367 : zokL 367 (cd 367) = true := by
  have h30 : zokL 367 ((cd 367).drop 30) = true := rfl
  have h0 : zokL 367 ((cd 367).drop 0) = true := zokN_join 30 _ zk_367_0 (by rw [List.drop_drop]; exact h30)
  exact h0
theorem zk_368_0 : zokN 368 30 ((cd 368).drop 0) = true := by decide +kernel
theorem zk_368 : zokL 368 (cd 368) = true := by
  have h30 : zokL 368 ((cd 368).drop 30) = true := rfl
  have h0 : zokL 368 ((cd 368).drop 0) = true := zokN_join 30 _ zk_368_0 (by rw [List.drop_drop]; exact h30)
  exact h0
theorem zk_369_0 : zokN 369 30 ((cd 369).drop 0) = true := by decide +kernel
theorem zk_369_30 : zokN 369 30 ((cd 369).drop 30) = true := by decide +kernel
theorem zk_369_60 : zokN 369 30 ((cd 369).drop 60) = true := by decide +kernel
theorem zk_369_90 : zokN 369 30 ((cd 369).drop 90) = true := by decide +kernel
theorem zk_369_120 : zokN 369 30 ((cd 369).drop 120) = true := by decide +kernel
theorem zk_369 : zokL 369 (cd 369) = true := by
  have h150 : zokL 369 ((cd 369).drop 150) = true := rfl
  have h120 : zokL 369 ((cd 369).drop 120) = true := zokN_join 30 _ zk_369_120 (by rw [List.drop_drop]; exact h150)
  have h90 : zokL 369 ((cd 369).drop 90) = true := zokN_join 30 _ zk_369_90 (by rw [List.drop_drop]; exact h120)
  have h60 : zokL 369 ((cd 369).drop 60) = true := zokN_join 30 _ zk_369_60 (by rw [List.drop_drop]; exact h90)
  have h30 : zokL 369 ((cd 369).drop 30) = true := zokN_join 30 _ zk_369_30 (by rw [List.drop_drop]; exact h60)
  have h0 : zokL 369 ((cd 369).drop 0) = true := zokN_join 30 _ zk_369_0 (by rw [List.drop_drop]; exact h30)
  exact h0
theorem zk_370_0 : zokN 370 30 ((cd 370).drop 0) = true := by decide +kernel
theorem zk_370_30 : zokN 370 30 ((cd 370).drop 30) = true := by decide +kernel
theorem zk_370 : zokL 370 (cd 370) = true := by
  have h60 : zokL 370 ((cd 370).drop 60) = true := rfl
  have h30 : zokL 370 ((cd 370).drop 30) = true := zokN_join 30 _ zk_370_30 (by rw [List.drop_drop]; exact h60)
  have h0 : zokL 370 ((cd 370).drop 0) = true := zokN_join 30 _ zk_370_0 (by rw [List.drop_drop]; exact h30)
  exact h0
theorem zk_371_0 : zokN 371 30 ((cd 371).drop 0) = true := by decide +kernel
theorem zk_371_30 : zokN 371 30 ((cd 371).drop 30) = true := by decide +kernel
theorem zk_371 : zokL 371 (cd 371) = true := by
  have h60 : zokL 371 ((cd 371).drop 60) = true := rfl
  have h30 : zokL 371 ((cd 371).drop 30) = true := zokN_join 30 _ zk_371_30 (by rw [List.drop_drop]; exact h60)
  have h0 : zokL 371 ((cd 371).drop 0) = true := zokN_join 30 _ zk_371_0 (by rw [List.drop_drop]; exact h30)
  exact h0
theorem zk_372_0 : zokN 372 30 ((cd 372).drop 0) = true := by decide +kernel
theorem zk_372_30 : zokN 372 30 ((cd 372).drop 30) = true := by decide +kernel
theorem zk_372 : zokL 372 (cd 372) = true := by
  have h60 : zokL 372 ((cd 372).drop 60) = true := rfl
  have h30 : zokL 372 ((cd 372).drop 30) = true := zokN_join 30 _ zk_372_30 (by rw [List.drop_drop]; exact h60)
  have h0 : zokL 372 ((cd 372).drop 0) = true := zokN_join 30 _ zk_372_0 (by rw [List.drop_drop]; exact h30)
  exact h0
theorem zk_373_0 : zokN 373 30 ((cd 373).drop 0) = true := by decide +kernel
theorem zk_373_30 : zokN 373 30 ((cd 373).drop 30) = true := by decide +kernel
theorem zk_373 : zokL 373 (cd 373) = true := by
  have h60 : zokL 373 ((cd 373).drop 60) = true := rfl
  have h30 : zokL 373 ((cd 373).drop 30) = true := zokN_join 30 _ zk_373_30 (by rw [List.drop_drop]; exact h60)
  have h0 : zokL 373 ((cd 373).drop 0) = true := zokN_join 30 _ zk_373_0 (by rw [List.drop_drop]; exact h30)
  exact h0
theorem zk_374_0 : zokN 374 30 ((cd 374).drop 0) = true := by decide +kernel
theorem zk_374_30 : zokN 374 30 ((cd 374).drop 30) = true := by decide +kernel
theorem zk_374 : zokL 374 (cd 374) = true := by
  have h60 : zokL 374 ((cd 374).drop 60) = true := rfl
  have h30 : zokL 374 ((cd 374).drop 30) = true := zokN_join 30 _ zk_374_30 (by rw [List.drop_drop]; exact h60)
  have h0 : zokL 374 ((cd 374).drop 0) = true := zokN_join 30 _ zk_374_0 (by rw [List.drop_drop]; exact h30)
  exact h0
theorem zk_375_0 : zokN 375 30 ((cd 375).drop 0) = true := by decide +kernel
theorem zk_375_30 : zokN 375 30 ((cd 375).drop 30) = true := by decide +kernel
theorem zk_375_60 : zokN 375 30 ((cd 375).drop 60) = true := by decide +kernel
theorem zk_375_90 : zokN 375 30 ((cd 375).drop 90) = true := by decide +kernel
theorem zk_375 : zokL 375 (cd 375) = true := by
  have h120 : zokL 375 ((cd 375).drop 120) = true := rfl
  have h90 : zokL 375 ((cd 375).drop 90) = true := zokN_join 30 _ zk_375_90 (by rw [List.drop_drop]; exact h120)
  have h60 : zokL 375 ((cd 375).drop 60) = true := zokN_join 30 _ zk_375_60 (by rw [List.drop_drop]; exact h90)
  have h30 : zokL 375 ((cd 375).drop 30) = true := zokN_join 30 _ zk_375_30 (by rw [List.drop_drop]; exact h60)
  have h0 : zokL 375 ((cd 375).drop 0) = true := zokN_join 30 _ zk_375_0 (by rw [List.drop_drop]; exact h30)
  exact h0
theorem zk_376_0 : zokN 376 30 ((cd 376).drop 0) = true := by decide +kernel
theorem zk_376 : zokL 376 (cd 376) = true := by
  have h30 : zokL 376 ((cd 376).drop 30) = true := rfl
  have h0 : zokL 376 ((cd 376).drop 0) = true := zokN_join 30 _ zk_376_0 (by rw [List.drop_drop]; exact h30)
  exact h0
theorem zk_377_0 : zokN 377 30 ((cd 377).drop 0) = true := by decide +kernel
theorem zk_377 : zokL 377 (cd 377) = true := by
  have h30 : zokL 377 ((cd 377).drop 30) = true := rfl
  have h0 : zokL 377 ((cd 377).drop 0) = true := zokN_join 30 _ zk_377_0 (by rw [List.drop_drop]; exact h30)
  exact h0
theorem zk_378_0 : zokN 378 30 ((cd 378).drop 0) = true := by decide +kernel
theorem zk_378_30 : zokN 378 30 ((cd 378).drop 30) = true := by decide +kernel
theorem zk_378_60 : zokN 378 30 ((cd 378).drop 60) = true := by decide +kernel
theorem zk_378 : zokL 378 (cd 378) = true := by
  have h90 : zokL 378 ((cd 378).drop 90) = true := rfl
  have h60 : zokL 378 ((cd 378).drop 60) = true := zokN_join 30 _ zk_378_60 (by rw [List.drop_drop]; exact h90)
  have h30 : zokL 378 ((cd 378).drop 30) = true := zokN_join 30 _ zk_378_30 (by rw [List.drop_drop]; exact h60)
  have h0 : zokL 378 ((cd 378).drop 0) = true := zokN_join 30 _ zk_378_0 (by rw [List.drop_drop]; exact h30)
  exact h0
theorem zk_379_0 : zokN 379 30 ((cd 379).drop 0) = true := by decide +kernel
theorem zk_379_30 : zokN 379 30 ((cd 379).drop 30) = true := by decide +kernel
theorem zk_379_60 : zokN 379 30 ((cd 379).drop 60) = true := by decide +kernel
theorem zk_379_90 : zokN 379 30 ((cd 379).drop 90) = true := by decide +kernel
theorem zk_379 : zokL 379 (cd 379) = true := by
  have h120 : zokL 379 ((cd 379).drop 120) = true := rfl
  have h90 : zokL 379 ((cd 379).drop 90) = true := zokN_join 30 _ zk_379_90 (by rw [List.drop_drop]; exact h120)
  have h60 : zokL 379 ((cd 379).drop 60) = true := zokN_join 30 _ zk_379_60 (by rw [List.drop_drop]; exact h90)
  have h30 : zokL 379 ((cd 379).drop 30) = true := zokN_join 30 _ zk_379_30 (by rw [List.drop_drop]; exact h60)
  have h0 : zokL 379 ((cd 379).drop 0) = true := zokN_join 30 _ zk_379_0 (by rw [List.drop_drop]; exact h30)
  exact h0
theorem zk_380_0 : zokN 380 30 ((cd 380).drop 0) = true := by decide +kernel
theorem zk_380 : zokL 380 (cd 380) = true := by
  have h30 : zokL 380 ((cd 380).drop 30) = true := rfl
  have h0 : zokL 380 ((cd 380).drop 0) = true := zokN_join 30 _ zk_380_0 (by rw [List.drop_drop]; exact h30)
  exact h0
theorem zk_381_0 : zokN 381 30 ((cd 381).drop 0) = true := by decide +kernel
theorem zk_381 : zokL 381 (cd 381) = true := by
  have h30 : zokL 381 ((cd 381).drop 30) = true := rfl
  have h0 : zokL 381 ((cd 381).drop 0) = true := zokN_join 30 _ zk_381_0 (by rw [List.drop_drop]; exact h30)
  exact h0
theorem zk_382_0 : zokN 382 30 ((cd 382).drop 0) = true := by decide +kernel
theorem zk_382 : zokL 382 (cd 382) = true := by
  have h30 : zokL 382 ((cd 382).drop 30) = true := rfl
  have h0 : zokL 382 ((cd 382).drop 0) = true := zokN_join 30 _ zk_382_0 (by rw [List.drop_drop]; exact h30)
  exact h0
theorem zk_383_0 : zokN 383 30 ((cd 383).drop 0) = true := by decide +kernel
theorem zk_383_30 : zokN 383 30 ((cd 383).drop 30) = true := by decide +kernel
theorem zk_383 : zokL 383 (cd 383) = true := by
  have h60 : zokL 383 ((cd 383).drop 60) = true := rfl
  have h30 : zokL 383 ((cd 383).drop 30) = true := zokN_join 30 _ zk_383_30 (by rw [List.drop_drop]; exact h60)
  have h0 : zokL 383 ((cd 383).drop 0) = true := zokN_join 30 _ zk_383_0 (by rw [List.drop_drop]; exact h30)
  exact h0
theorem zk_384_0 : zokN 384 30 ((cd 384).drop 0) = true := by decide +kernel
theorem zk_384_30 : zokN 384 30 ((cd 384).drop 30) = true := by decide +kernel
theorem zk_384_60 : zokN 384 30 ((cd 384).drop 60) = true := by decide +kernel
theorem zk_384_90 : zokN 384 30 ((cd 384).drop 90) = true := by decide +kernel
theorem zk_384_120 : zokN 384 30 ((cd 384).drop 120) = true := by decide +kernel
theorem zk_384_150 : zokN 384 30 ((cd 384).drop 150) = true := by decide +kernel
theorem zk_384 : zokL 384 (cd 384) = true := by
  have h180 : zokL 384 ((cd 384).drop 180) = true := rfl
  have h150 : zokL 384 ((cd 384).drop 150) = true := zokN_join 30 _ zk_384_150 (by rw [List.drop_drop]; exact h180)
  have h120 : zokL 384 ((cd 384).drop 120) = true := zokN_join 30 _ zk_384_120 (by rw [List.drop_drop]; exact h150)
  have h90 : zokL 384 ((cd 384).drop 90) = true := zokN_join 30 _ zk_384_90 (by rw [List.drop_drop]; exact h120)
  have h60 : zokL 384 ((cd 384).drop 60) = true := zokN_join 30 _ zk_384_60 (by rw [List.drop_drop]; exact h90)
  have h30 : zokL 384 ((cd 384).drop 30) = true := zokN_join 30 _ zk_384_30 (by rw [List.drop_drop]; exact h60)
  have h0 : zokL 384 ((cd 384).drop 0) = true := zokN_join 30 _ zk_384_0 (by rw [List.drop_drop]; exact h30)
  exact h0
theorem zk_385_0 : zokN 385 30 ((cd 385).drop 0) = true := by decide +kernel
theorem zk_385 : zokL 385 (cd 385) = true := by
  have h30 : zokL 385 ((cd 385).drop 30) = true := rfl
  have h0 : zokL 385 ((cd 385).drop 0) = true := zokN_join 30 _ zk_385_0 (by rw [List.drop_drop]; exact h30)
  exact h0
theorem zk_386_0 : zokN 386 30 ((cd 386).drop 0) = true := by decide +kernel
theorem zk_386 : zokL 386 (cd 386) = true := by
  have h30 : zokL 386 ((cd 386).drop 30) = true := rfl
  have h0 : zokL 386 ((cd 386).drop 0) = true := zokN_join 30 _ zk_386_0 (by rw [List.drop_drop]; exact h30)
  exact h0
theorem zk_387_0 : zokN 387 30 ((cd 387).drop 0) = true := by decide +kernel
theorem zk_387 : zokL 387 (cd 387) = true := by
  have h30 : zokL 387 ((cd 387).drop 30) = true := rfl
  have h0 : zokL 387 ((cd 387).drop 0) = true := zokN_join 30 _ zk_387_0 (by rw [List.drop_drop]; exact h30)
  exact h0
theorem zk_388_0 : zokN 388 30 ((cd 388).drop 0) = true := by decide +kernel
theorem zk_388_30 : zokN 388 30 ((cd 388).drop 30) = true := by decide +kernel
theorem zk_388 : zokL 388 (cd 388) = true := by
  have h60 : zokL 388 ((cd 388).drop 60) = true := rfl
  have h30 : zokL 388 ((cd 388).drop 30) = true := zokN_join 30 _ zk_388_30 (by rw [List.drop_drop]; exact h60)
  have h0 : zokL 388 ((cd 388).drop 0) = true := zokN_join 30 _ zk_388_0 (by rw [List.drop_drop]; exact h30)
  exact h0
theorem zk_389_0 : zokN 389 30 ((cd 389).drop 0) = true := by decide +kernel
theorem zk_389_30 : zokN 389 30 ((cd 389).drop 30) = true := by decide +kernel
theorem zk_389 : zokL 389 (cd 389) = true := by
  have h60 : zokL 389 ((cd 389).drop 60) = true := rfl
  have h30 : zokL 389 ((cd 389).drop 30) = true := zokN_join 30 _ zk_389_30 (by rw [List.drop_drop]; exact h60)
  have h0 : zokL 389 ((cd 389).drop 0) = true := zokN_join 30 _ zk_389_0 (by rw [List.drop_drop]; exact h30)
  exact h0
theorem zk_390_0 : zokN 390 30 ((cd 390).drop 0) = true := by decide +kernel
theorem zk_390_30 : zokN 390 30 ((cd 390).drop 30) = true := by decide +kernel
theorem zk_390_60 : zokN 390 30 ((cd 390).drop 60) = true := by decide +kernel
theorem zk_390_90 : zokN 390 30 ((cd 390).drop 90) = true := by decide +kernel
theorem zk_390_120 : zokN 390 30 ((cd 390).drop 120) = true := by decide +kernel
theorem zk_390 : zokL 390 (cd 390) = true := by
  have h150 : zokL 390 ((cd 390).drop 150) = true := rfl
  have h120 : zokL 390 ((cd 390).drop 120) = true := zokN_join 30 _ zk_390_120 (by rw [List.drop_drop]; exact h150)
  have h90 : zokL 390 ((cd 390).drop 90) = true := zokN_join 30 _ zk_390_90 (by rw [List.drop_drop]; exact h120)
  have h60 : zokL 390 ((cd 390).drop 60) = true := zokN_join 30 _ zk_390_60 (by rw [List.drop_drop]; exact h90)
  have h30 : zokL 390 ((cd 390).drop 30) = true := zokN_join 30 _ zk_390_30 (by rw [List.drop_drop]; exact h60)
  have h0 : zokL 390 ((cd 390).drop 0) = true := zokN_join 30 _ zk_390_0 (by rw [List.drop_drop]; exact h30)
  exact h0
theorem zk_391_0 : zokN 391 30 ((cd 391).drop 0) = true := by decide +kernel
theorem zk_391_30 : zokN 391 30 ((cd 391).drop 30) = true := by decide +kernel
theorem zk_391 : zokL 391 (cd 391) = true := by
  have h60 : zokL 391 ((cd 391).drop 60) = true := rfl
  have h30 : zokL 391 ((cd 391).drop 30) = true := zokN_join 30 _ zk_391_30 (by rw [List.drop_drop]; exact h60)
  have h0 : zokL 391 ((cd 391).drop 0) = true := zokN_join 30 _ zk_391_0 (by rw [List.drop_drop]; exact h30)
  exact h0
theorem zk_392_0 : zokN 392 30 ((cd 392).drop 0) = true := by decide +kernel
theorem zk_392_30 : zokN 392 30 ((cd 392).drop 30) = true := by decide +kernel
theorem zk_392_60 : zokN 392 30 ((cd 392).drop 60) = true := by decide +kernel
theorem zk_392_90 : zokN 392 30 ((cd 392).drop 90) = true := by decide +kernel
theorem zk_392_120 : zokN 392 30 ((cd 392).drop 120) = true := by decide +kernel
theorem zk_392_150 : zokN 392 30 ((cd 392).drop 150) = true := by decide +kernel
theorem zk_392_180 : zokN 392 30 ((cd 392).drop 180) = true := by decide +kernel
theorem zk_392 : zokL 392 (cd 392) = true := by
  have h210 : zokL 392 ((cd 392).drop 210) = true := rfl
  have h180 : zokL 392 ((cd 392).drop 180) = true := zokN_join 30 _ zk_392_180 (by rw [List.drop_drop]; exact h210)
  have h150 : zokL 392 ((cd 392).drop 150) = true := zokN_join 30 _ zk_392_150 (by rw [List.drop_drop]; exact h180)
  have h120 : zokL 392 ((cd 392).drop 120) = true := zokN_join 30 _ zk_392_120 (by rw [List.drop_drop]; exact h150)
  have h90 : zokL 392 ((cd 392).drop 90) = true := zokN_join 30 _ zk_392_90 (by rw [List.drop_drop]; exact h120)
  have h60 : zokL 392 ((cd 392).drop 60) = true := zokN_join 30 _ zk_392_60 (by rw [List.drop_drop]; exact h90)
  have h30 : zokL 392 ((cd 392).drop 30) = true := zokN_join 30 _ zk_392_30 (by rw [List.drop_drop]; exact h60)
  have h0 : zokL 392 ((cd 392).drop 0) = true := zokN_join 30 _ zk_392_0 (by rw [List.drop_drop]; exact h30)
  exact h0
theorem zk_393_0 : zokN 393 30 ((cd 393).drop 0) = true := by decide +kernel
theorem zk_393_30 : zokN 393 30 ((cd 393).drop 30) = true := by decide +kernel
theorem zk_393_60 : zokN 393 30 ((cd 393).drop 60) = true := by decide +kernel
theorem zk_393_90 : zokN 393 30 ((cd 393).drop 90) = true := by decide +kernel
theorem zk_393_120 : zokN 393 30 ((cd 393).drop 120) = true := by decide +kernel
theorem zk_393_150 : zokN 393 30 ((cd 393).drop 150) = true := by decide +kernel
theorem zk_393 : zokL 393 (cd 393) = true := by
  have h180 : zokL 393 ((cd 393).drop 180) = true := rfl
  have h150 : zokL 393 ((cd 393).drop 150) = true := zokN_join 30 _ zk_393_150 (by rw [List.drop_drop]; exact h180)
  have h120 : zokL 393 ((cd 393).drop 120) = true := zokN_join 30 _ zk_393_120 (by rw [List.drop_drop]; exact h150)
  have h90 : zokL 393 ((cd 393).drop 90) = true := zokN_join 30 _ zk_393_90 (by rw [List.drop_drop]; exact h120)
  have h60 : zokL 393 ((cd 393).drop 60) = true := zokN_join 30 _ zk_393_60 (by rw [List.drop_drop]; exact h90)
  have h30 : zokL 393 ((cd 393).drop 30) = true := zokN_join 30 _ zk_393_30 (by rw [List.drop_drop]; exact h60)
  have h0 : zokL 393 ((cd 393).drop 0) = true := zokN_join 30 _ zk_393_0 (by rw [List.drop_drop]; exact h30)
  exact h0
theorem zk_394_0 : zokN 394 30 ((cd 394).drop 0) = true := by decide +kernel
theorem zk_394 : zokL 394 (cd 394) = true := by
  have h30 : zokL 394 ((cd 394).drop 30) = true := rfl
  have h0 : zokL 394 ((cd 394).drop 0) = true := zokN_join 30 _ zk_394_0 (by rw [List.drop_drop]; exact h30)
  exact h0
theorem zk_395_0 : zokN 395 30 ((cd 395).drop 0) = true := by decide +kernel
theorem zk_395 : zokL 395 (cd 395) = true := by
  have h30 : zokL 395 ((cd 395).drop 30) = true := rfl
  have h0 : zokL 395 ((cd 395).drop 0) = true := zokN_join 30 _ zk_395_0 (by rw [List.drop_drop]; exact h30)
  exact h0
theorem zk_396_0 : zokN 396 30 ((cd 396).drop 0) = true := by decide +kernel
theorem zk_396 : zokL 396 (cd 396) = true := by
  have h30 : zokL 396 ((cd 396).drop 30) = true := rfl
  have h0 : zokL 396 ((cd 396).drop 0) = true := zokN_join 30 _ zk_396_0 (by rw [List.drop_drop]; exact h30)
  exact h0
theorem zk_397_0 : zokN 397 30 ((cd 397).drop 0) = true := by decide +kernel
theorem zk_397_30 : zokN 397 30 ((cd 397).drop 30) = true := by decide +kernel
theorem zk_397_60 : zokN 397 30 ((cd 397).drop 60) = true := by decide +kernel
theorem zk_397_90 : zokN 397 30 ((cd 397).drop 90) = true := by decide +kernel
theorem zk_397_120 : zokN 397 30 ((cd 397).drop 120) = true := by decide +kernel
theorem zk_397 : zokL 397 (cd 397) = true := by
  have h150 : zokL 397 ((cd 397).drop 150) = true := rfl
  have h120 : zokL 397 ((cd 397).drop 120) = true := zokN_join 30 _ zk_397_120 (by rw [List.drop_drop]; exact h150)
  have h90 : zokL 397 ((cd 397).drop 90) = true := zokN_join 30 _ zk_397_90 (by rw [List.drop_drop]; exact h120)
  have h60 : zokL 397 ((cd 397).drop 60) = true := zokN_join 30 _ zk_397_60 (by rw [List.drop_drop]; exact h90)
  have h30 : zokL 397 ((cd 397).drop 30) = true := zokN_join 30 _ zk_397_30 (by rw [List.drop_drop]; exact h60)
  have h0 : zokL 397 ((cd 397).drop 0) = true := zokN_join 30 _ zk_397_0 (by rw [List.drop_drop]; exact h30)
  exact h0
theorem zk_398_0 : zokN 398 30 ((cd 398).drop 0) = true := by decide +kernel
theorem zk_398 : zokL 398 (cd 398) = true := by
  have h30 : zokL 398 ((cd 398).drop 30) = true := rfl
  have h0 : zokL 398 ((cd 398).drop 0) = true := zokN_join 30 _ zk_398_0 (by rw [List.drop_drop]; exact h30)
  exact h0
theorem zk_399_0 : zokN 399 30 ((cd 399).drop 0) = true := by decide +kernel
theorem zk_399 : zokL 399 (cd 399) = true := by
  have h30 : zokL 399 ((cd 399).drop 30) = true := rfl
  have h0 : zokL 399 ((cd 399).drop 0) = true := zokN_join 30 _ zk_399_0 (by rw [List.drop_drop]; exact h30)
  exact h0
theorem zk_400_0 : zokN 400 30 ((cd 400).drop 0) = true := by decide +kernel
theorem zk_400 : zokL 400 (cd 400) = true := by
  have h30 : zokL 400 ((cd 400).drop 30) = true := rfl
  have h0 : zokL 400 ((cd 400).drop 0) = true := zokN_join 30 _ zk_400_0 (by rw [List.drop_drop]; exact h30)
  exact h0
theorem zk_401_0 : zokN 401 30 ((cd 401).drop 0) = true := by decide +kernel
theorem zk_401 : zokL 401 (cd 401) = true := by
  have h30 : zokL 401 ((cd 401).drop 30) = true := rfl
  have h0 : zokL 401 ((cd 401).drop 0) = true := zokN_join 30 _ zk_401_0 (by rw [List.drop_drop]; exact h30)
  exact h0
theorem zk_402_0 : zokN 402 30 ((cd 402).drop 0) = true := by decide +kernel
theorem zk_402_30 : zokN 402 30 ((cd 402).drop 30) = true := by decide +kernel
theorem zk_402_60 : zokN 402 30 ((cd 402).drop 60) = true := by decide +kernel
theorem zk_402_90 : zokN 402 30 ((cd 402).drop 90) = true := by decide +kernel
theorem zk_402_120 : zokN 402 30 ((cd 402).drop 120) = true := by decide +kernel
theorem zk_402 : zokL 402 (cd 402) = true := by
  have h150 : zokL 402 ((cd 402).drop 150) = true := rfl
  have h120 : zokL 402 ((cd 402).drop 120) = true := zokN_join 30 _ zk_402_120 (by rw [List.drop_drop]; exact h150)
  have h90 : zokL 402 ((cd 402).drop 90) = true := zokN_join 30 _ zk_402_90 (by rw [List.drop_drop]; exact h120)
  have h60 : zokL 402 ((cd 402).drop 60) = true := zokN_join 30 _ zk_402_60 (by rw [List.drop_drop]; exact h90)
  have h30 : zokL 402 ((cd 402).drop 30) = true := zokN_join 30 _ zk_402_30 (by rw [List.drop_drop]; exact h60)
  have h0 : zokL 402 ((cd 402).drop 0) = true := zokN_join 30 _ zk_402_0 (by rw [List.drop_drop]; exact h30)
  exact h0
theorem zk_403_0 : zokN 403 30 ((cd 403).drop 0) = true := by decide +kernel
theorem zk_403_30 : zokN 403 30 ((cd 403).drop 30) = true := by decide +kernel
theorem zk_403 : zokL 403 (cd 403) = true := by
  have h60 : zokL 403 ((cd 403).drop 60) = true := rfl
  have h30 : zokL 403 ((cd 403).drop 30) = true := zokN_join 30 _ zk_403_30 (by rw [List.drop_drop]; exact h60)
  have h0 : zokL 403 ((cd 403).drop 0) = true := zokN_join 30 _ zk_403_0 (by rw [List.drop_drop]; exact h30)
  exact h0
theorem zk_404_0 : zokN 404 30 ((cd 404).drop 0) = true := by decide +kernel
theorem zk_404_30 : zokN 404 30 ((cd 404).drop 30) = true := by decide +kernel
theorem zk_404_60 : zokN 404 30 ((cd 404).drop 60) = true := by decide +kernel
theorem zk_404_90 : zokN 404 30 ((cd 404).drop 90) = true := by decide +kernel
theorem zk_404_120 : zokN 404 30 ((cd 404).drop 120) = true := by decide +kernel
theorem zk_404 : zokL 404 (cd 404) = true := by
  have h150 : zokL 404 ((cd 404).drop 150) = true := rfl
  have h120 : zokL 404 ((cd 404).drop 120) = true := zokN_join 30 _ zk_404_120 (by rw [List.drop_drop]; exact h150)
  have h90 : zokL 404 ((cd 404).drop 90) = true := zokN_join 30 _ zk_404_90 (by rw [List.drop_drop]; exact h120)
  have h60 : zokL 404 ((cd 404).drop 60) = true := zokN_join 30 _ zk_404_60 (by rw [List.drop_drop]; exact h90)
  have h30 : zokL 404 ((cd 404).drop 30) = true := zokN_join 30 _ zk_404_30 (by rw [List.drop_drop]; exact h60)
  have h0 : zokL 404 ((cd 404).drop 0) = true := zokN_join 30 _ zk_404_0 (by rw [List.drop_drop]; exact h30)
  exact h0
theorem zk_405_0 : zokN 405 30 ((cd 405).drop 0) = true := by decide +kernel
theorem zk_405_30 : zokN 405 30 ((cd 405).drop 30) = true := by decide +kernel
theorem zk_405 : zokL 405 (cd 405) = true := by
  have h60 : zokL 405 ((cd 405).drop 60) = true := rfl
  have h30 : zokL 405 ((cd 405).drop 30) = true := zokN_join 30 _ zk_405_30 (by rw [List.drop_drop]; exact h60)
  have h0 : zokL 405 ((cd 405).drop 0) = true := zokN_join 30 _ zk_405_0 (by rw [List.drop_drop]; exact h30)
  exact h0
theorem zk_406_0 : zokN 406 30 ((cd 406).drop 0) = true := by decide +kernel
theorem zk_406_30 : zokN 406 30 ((cd 406).drop 30) = true := by decide +kernel
theorem zk_406_60 : zokN 406 30 ((cd 406).drop 60) = true := by decide +kernel
theorem zk_406 : zokL 406 (cd 406) = true := by
  have h90 : zokL 406 ((cd 406).drop 90) = true := rfl
  have h60 : zokL 406 ((cd 406).drop 60) = true := zokN_join 30 _ zk_406_60 (by rw [List.drop_drop]; exact h90)
  have h30 : zokL 406 ((cd 406).drop 30) = true := zokN_join 30 _ zk_406_30 (by rw [List.drop_drop]; exact h60)
  have h0 : zokL 406 ((cd 406).drop 0) = true := zokN_join 30 _ zk_406_0 (by rw [List.drop_drop]; exact h30)
  exact h0
theorem zk_407_0 : zokN 407 30 ((cd 407).drop 0) = true := by decide +kernel
theorem zk_407_30 : zokN 407 30 ((cd 407).drop 30) = true := by decide +kernel
theorem zk_407_60 : zokN 407 30 ((cd 407).drop 60) = true := by decide +kernel
theorem zk_407_90 : zokN 407 30 ((cd 407).drop 90) = true := by decide +kernel
theorem zk_407_120 : zokN 407 30 ((cd 407).drop 120) = true := by decide +kernel
theorem zk_407 : zokL 407 (cd 407) = true := by
  have h150 : zokL 407 ((cd 407).drop 150) = true := rfl
  have h120 : zokL 407 ((cd 407).drop 120) = true := zokN_join 30 _ zk_407_120 (by rw [List.drop_drop]; exact h150)
  have h90 : zokL 407 ((cd 407).drop 90) = true := zokN_join 30 _ zk_407_90 (by rw [List.drop_drop]; exact h120)
  have h60 : zokL 407 ((cd 407).drop 60) = true := zokN_join 30 _ zk_407_60 (by rw [List.drop_drop]; exact h90)
  have h30 : zokL 407 ((cd 407).drop 30) = true := zokN_join 30 _ zk_407_30 (by rw [List.drop_drop]; exact h60)
  have h0 : zokL 407 ((cd 407).drop 0) = true := zokN_join 30 _ zk_407_0 (by rw [List.drop_drop]; exact h30)
  exact h0
theorem zk_408_0 : zokN 408 30 ((cd 408).drop 0) = true := by decide +kernel
theorem zk_408_30 : zokN 408 30 ((cd 408).drop 30) = true := by decide +kernel
theorem zk_408 : zokL 408 (cd 408) = true := by
  have h60 : zokL 408 ((cd 408).drop 60) = true := rfl
  have h30 : zokL 408 ((cd 408).drop 30) = true := zokN_join 30 _ zk_408_30 (by rw [List.drop_drop]; exact h60)
  have h0 : zokL 408 ((cd 408).drop 0) = true := zokN_join 30 _ zk_408_0 (by rw [List.drop_drop]; exact h30)
  exact h0
theorem zk_409_0 : zokN 409 30 ((cd 409).drop 0) = true := by decide +kernel
theorem zk_409 : zokL 409 (cd 409) = true := by
  have h30 : zokL 409 ((cd 409).drop 30) = true := rfl
  have h0 : zokL 409 ((cd 409).drop 0) = true := zokN_join 30 _ zk_409_0 (by rw [List.drop_drop]; exact h30)
  exact h0
theorem zk_410_0 : zokN 410 30 ((cd 410).drop 0) = true := by decide +kernel
theorem zk_410_30 : zokN 410 30 ((cd 410).drop 30) = true := by decide +kernel
theorem zk_410 : zokL 410 (cd 410) = true := by
  have h60 : zokL 410 ((cd 410).drop 60) = true := rfl
  have h30 : zokL 410 ((cd 410).drop 30) = true := zokN_join 30 _ zk_410_30 (by rw [List.drop_drop]; exact h60)
  have h0 : zokL 410 ((cd 410).drop 0) = true := zokN_join 30 _ zk_410_0 (by rw [List.drop_drop]; exact h30)
  exact h0
theorem zk_411_0 : zokN 411 30 ((cd 411).drop 0) = true := by decide +kernel
theorem zk_411 : zokL 411 (cd 411) = true := by
  have h30 : zokL 411 ((cd 411).drop 30) = true := rfl
  have h0 : zokL 411 ((cd 411).drop 0) = true := zokN_join 30 _ zk_411_0 (by rw [List.drop_drop]; exact h30)
  exact h0
theorem zk_412_0 : zokN 412 30 ((cd 412).drop 0) = true := by decide +kernel
theorem zk_412_30 : zokN 412 30 ((cd 412).drop 30) = true := by decide +kernel
theorem zk_412 : zokL 412 (cd 412) = true := by
  have h60 : zokL 412 ((cd 412).drop 60) = true := rfl
  have h30 : zokL 412 ((cd 412).drop 30) = true := zokN_join 30 _ zk_412_30 (by rw [List.drop_drop]; exact h60)
  have h0 : zokL 412 ((cd 412).drop 0) = true := zokN_join 30 _ zk_412_0 (by rw [List.drop_drop]; exact h30)
  exact h0
theorem zk_413_0 : zokN 413 30 ((cd 413).drop 0) = true := by decide +kernel
theorem zk_413_30 : zokN 413 30 ((cd 413).drop 30) = true := by decide +kernel
theorem zk_413 : zokL 413 (cd 413) = true := by
  have h60 : zokL 413 ((cd 413).drop 60) = true := rfl
  have h30 : zokL 413 ((cd 413).drop 30) = true := zokN_join 30 _ zk_413_30 (by rw [List.drop_drop]; exact h60)
  have h0 : zokL 413 ((cd 413).drop 0) = true := zokN_join 30 _ zk_413_0 (by rw [List.drop_drop]; exact h30)
  exact h0
theorem zk_414_0 : zokN 414 30 ((cd 414).drop 0) = true := by decide +kernel
theorem zk_414_30 : zokN 414 30 ((cd 414).drop 30) = true := by decide +kernel
theorem zk_414_60 : zokN 414 30 ((cd 414).drop 60) = true := by decide +kernel
theorem zk_414 : zokL 414 (cd 414) = true := by
  have h90 : zokL 414 ((cd 414).drop 90) = true := rfl
  have h60 : zokL 414 ((cd 414).drop 60) = true := zokN_join 30 _ zk_414_60 (by rw [List.drop_drop]; exact h90)
  have h30 : zokL 414 ((cd 414).drop 30) = true := zokN_join 30 _ zk_414_30 (by rw [List.drop_drop]; exact h60)
  have h0 : zokL 414 ((cd 414).drop 0) = true := zokN_join 30 _ zk_414_0 (by rw [List.drop_drop]; exact h30)
  exact h0
theorem zk_415_0 : zokN 415 30 ((cd 415).drop 0) = true := by decide +kernel
theorem zk_415_30 : zokN 415 30 ((cd 415).drop 30) = true := by decide +kernel
theorem zk_415_60 : zokN 415 30 ((cd 415).drop 60) = true := by decide +kernel
theorem zk_415_90 : zokN 415 30 ((cd 415).drop 90) = true := by decide +kernel
theorem zk_415_120 : zokN 415 30 ((cd 415).drop 120) = true := by decide +kernel
theorem zk_415_150 : zokN 415 30 ((cd 415).drop 150) = true := by decide +kernel
theorem zk_415_180 : zokN 415 30 ((cd 415).drop 180) = true := by decide +kernel
theorem zk_415 : zokL 415 (cd 415) = true := by
  have h210 : zokL 415 ((cd 415).drop 210) = true := rfl
  have h180 : zokL 415 ((cd 415).drop 180) = true := zokN_join 30 _ zk_415_180 (by rw [List.drop_drop]; exact h210)
  have h150 : zokL 415 ((cd 415).drop 150) = true := zokN_join 30 _ zk_415_150 (by rw [List.drop_drop]; exact h180)
  have h120 : zokL 415 ((cd 415).drop 120) = true := zokN_join 30 _ zk_415_120 (by rw [List.drop_drop]; exact h150)
  have h90 : zokL 415 ((cd 415).drop 90) = true := zokN_join 30 _ zk_415_90 (by rw [List.drop_drop]; exact h120)
  have h60 : zokL 415 ((cd 415).drop 60) = true := zokN_join 30 _ zk_415_60 (by rw [List.drop_drop]; exact h90)
  have h30 : zokL 415 ((cd 415).drop 30) = true := zokN_join 30 _ zk_415_30 (by rw [List.drop_drop]; exact h60)
  have h0 : zokL 415 ((cd 415).drop 0) = true := zokN_join 30 _ zk_415_0 (by rw [List.drop_drop]; exact h30)
  exact h0
theorem zk_416_0 : zokN 416 30 ((cd 416).drop 0) = true := by decide +kernel
theorem zk_416_30 : zokN 416 30 ((cd 416).drop 30) = true := by decide +kernel
theorem zk_416_60 : zokN 416 30 ((cd 416).drop 60) = true := by decide +kernel
theorem zk_416_90 : zokN 416 30 ((cd 416).drop 90) = true := by decide +kernel
theorem zk_416_120 : zokN 416 30 ((cd 416).drop 120) = true := by decide +kernel
theorem zk_416 : zokL 416 (cd 416) = true := by
  have h150 : zokL 416 ((cd 416).drop 150) = true := rfl
  have h120 : zokL 416 ((cd 416).drop 120) = true := zokN_join 30 _ zk_416_120 (by rw [List.drop_drop]; exact h150)
  have h90 : zokL 416 ((cd 416).drop 90) = true := zokN_join 30 _ zk_416_90 (by rw [List.drop_drop]; exact h120)
  have h60 : zokL 416 ((cd 416).drop 60) = true := zokN_join 30 _ zk_416_60 (by rw [List.drop_drop]; exact h90)
  have h30 : zokL 416 ((cd 416).drop 30) = true := zokN_join 30 _ zk_416_30 (by rw [List.drop_drop]; exact h60)
  have h0 : zokL 416 ((cd 416).drop 0) = true := zokN_join 30 _ zk_416_0 (by rw [List.drop_drop]; exact h30)
  exact h0
theorem zk_417_0 : zokN 417 30 ((cd 417).drop 0) = true := by decide +kernel
theorem zk_417_30 : zokN 417 30 ((cd 417).drop 30) = true := by decide +kernel
theorem zk_417_60 : zokN 417 30 ((cd 417).drop 60) = true := by decide +kernel
theorem zk_417_90 : zokN 417 30 ((cd 417).drop 90) = true := by decide +kernel
theorem zk_417 : zokL 417 (cd 417) = true := by
  have h120 : zokL 417 ((cd 417).drop 120) = true := rfl
  have h90 : zokL 417 ((cd 417).drop 90) = true := zokN_join 30 _ zk_417_90 (by rw [List.drop_drop]; exact h120)
  have h60 : zokL 417 ((cd 417).drop 60) = true := zokN_join 30 _ zk_417_60 (by rw [List.drop_drop]; exact h90)
  have h30 : zokL 417 ((cd 417).drop 30) = true := zokN_join 30 _ zk_417_30 (by rw [List.drop_drop]; exact h60)
  have h0 : zokL 417 ((cd 417).drop 0) = true := zokN_join 30 _ zk_417_0 (by rw [List.drop_drop]; exact h30)
  exact h0
theorem zk_418_0 : zokN 418 30 ((cd 418).drop 0) = true := by decide +kernel
theorem zk_418 : zokL 418 (cd 418) = true := by
  have h30 : zokL 418 ((cd 418).drop 30) = true := rfl
  have h0 : zokL 418 ((cd 418).drop 0) = true := zokN_join 30 _ zk_418_0 (by rw [List.drop_drop]; exact h30)
  exact h0
theorem zk_419_0 : zokN 419 30 ((cd 419).drop 0) = true := by decide +kernel
theorem zk_419_30 : zokN 419 30 ((cd 419).drop 30) = true := by decide +kernel
theorem zk_419_60 : zokN 419 30 ((cd 419).drop 60) = true := by decide +kernel
theorem zk_419_90 : zokN 419 30 ((cd 419).drop 90) = true := by decide +kernel
theorem zk_419_120 : zokN 419 30 ((cd 419).drop 120) = true := by decide +kernel
theorem zk_419_150 : zokN 419 30 ((cd 419).drop 150) = true := by decide +kernel
theorem zk_419 : zokL 419 (cd 419) = true := by
  have h180 : zokL 419 ((cd 419).drop 180) = true := rfl
  have h150 : zokL 419 ((cd 419).drop 150) = true := zokN_join 30 _ zk_419_150 (by rw [List.drop_drop]; exact h180)
  have h120 : zokL 419 ((cd 419).drop 120) = true := zokN_join 30 _ zk_419_120 (by rw [List.drop_drop]; exact h150)
  have h90 : zokL 419 ((cd 419).drop 90) = true := zokN_join 30 _ zk_419_90 (by rw [List.drop_drop]; exact h120)
  have h60 : zokL 419 ((cd 419).drop 60) = true := zokN_join 30 _ zk_419_60 (by rw [List.drop_drop]; exact h90)
  have h30 : zokL 419 ((cd 419).drop 30) = true := zokN_join 30 _ zk_419_30 (by rw [List.drop_drop]; exact h60)
  have h0 : zokL 419 ((cd 419).drop 0) = true := zokN_join 30 _ zk_419_0 (by rw [List.drop_drop]; exact h30)
  exact h0
theorem zk_420_0 : zokN 420 30 ((cd 420).drop 0) = true := by decide +kernel
theorem zk_420_30 : zokN 420 30 ((cd 420).drop 30) = true := by decide +kernel
theorem zk_420 : zokL 420 (cd 420) = true := by
  have h60 : zokL 420 ((cd 420).drop 60) = true := rfl
  have h30 : zokL 420 ((cd 420).drop 30) = true := zokN_join 30 _ zk_420_30 (by rw [List.drop_drop]; exact h60)
  have h0 : zokL 420 ((cd 420).drop 0) = true := zokN_join 30 _ zk_420_0 (by rw [List.drop_drop]; exact h30)
  exact h0
theorem zk_421_0 : zokN 421 30 ((cd 421).drop 0) = true := by decide +kernel
theorem zk_421_30 : zokN 421 30 ((cd 421).drop 30) = true := by decide +kernel
theorem zk_421_60 : zokN 421 30 ((cd 421).drop 60) = true := by decide +kernel
theorem zk_421 : zokL 421 (cd 421) = true := by
  have h90 : zokL 421 ((cd 421).drop 90) = true := rfl
  have h60 : zokL 421 ((cd 421).drop 60) = true := zokN_join 30 _ zk_421_60 (by rw [List.drop_drop]; exact h90)
  have h30 : zokL 421 ((cd 421).drop 30) = true := zokN_join 30 _ zk_421_30 (by rw [List.drop_drop]; exact h60)
  have h0 : zokL 421 ((cd 421).drop 0) = true := zokN_join 30 _ zk_421_0 (by rw [List.drop_drop]; exact h30)
  exact h0
