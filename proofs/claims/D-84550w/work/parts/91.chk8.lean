set_option maxRecDepth 100000
set_option maxHeartbeats 4000000
theorem zk_422_0 : zokN 422 30 ((cd 422).drop 0) = true := by decide +kernel
theorem zk_422 : zokL 422 (cd 422) = true := by
  have h30 : zokL 422 ((cd 422).drop 30) = true := rfl
  have h0 : zokL 422 ((cd 422).drop 0) = true := zokN_join 30 _ zk_422_0 (by rw [List.drop_drop]; exact h30)
  exact h0
theorem zk_423_0 : zokN 423 30 ((cd 423).drop 0) = true := by decide +kernel
theorem zk_423_30 : zokN 423 30 ((cd 423).drop 30) = true := by decide +kernel
theorem zk_423_60 : zokN 423 30 ((cd 423).drop 60) = true := by decide +kernel
theorem zk_423_90 : zokN 423 30 ((cd 423).drop 90) = true := by decide +kernel
theorem zk_423 : zokL 423 (cd 423) = true := by
  have h120 : zokL 423 ((cd 423).drop 120) = true := rfl
  have h90 : zokL 423 ((cd 423).drop 90) = true := zokN_join 30 _ zk_423_90 (by rw [List.drop_drop]; exact h120)
  have h60 : zokL 423 ((cd 423).drop 60) = true := zokN_join 30 _ zk_423_60 (by rw [List.drop_drop]; exact h90)
  have h30 : zokL 423 ((cd 423).drop 30) = true := zokN_join 30 _ zk_423_30 (by rw [List.drop_drop]; exact h60)
  have h0 : zokL 423 ((cd 423).drop 0) = true := zokN_join 30 _ zk_423_0 (by rw [List.drop_drop]; exact h30)
  exact h0
theorem zk_424_0 : zokN 424 30 ((cd 424).drop 0) = true := by decide +kernel
theorem zk_424 : zokL 424 (cd 424) = true := by
  have h30 : zokL 424 ((cd 424).drop 30) = true := rfl
  have h0 : zokL 424 ((cd 424).drop 0) = true := zokN_join 30 _ zk_424_0 (by rw [List.drop_drop]; exact h30)
  exact h0
theorem zk_425_0 : zokN 425 30 ((cd 425).drop 0) = true := by decide +kernel
theorem zk_425 : zokL 425 (cd 425) = true := by
  have h30 : zokL 425 ((cd 425).drop 30) = true := rfl
  have h0 : zokL 425 ((cd 425).drop 0) = true := zokN_join 30 _ zk_425_0 (by rw [List.drop_drop]; exact h30)
  exact h0
theorem zk_426_0 : zokN 426 30 ((cd 426).drop 0) = true := by decide +kernel
theorem zk_426_30 : zokN 426 30 ((cd 426).drop 30) = true := by decide +kernel
theorem zk_426_60 : zokN 426 30 ((cd 426).drop 60) = true := by decide +kernel
theorem zk_426_90 : zokN 426 30 ((cd 426).drop 90) = true := by decide +kernel
theorem zk_426 : zokL 426 (cd 426) = true := by
  have h120 : zokL 426 ((cd 426).drop 120) = true := rfl
  have h90 : zokL 426 ((cd 426).drop 90) = true := zokN_join 30 _ zk_426_90 (by rw [List.drop_drop]; exact h120)
  have h60 : zokL 426 ((cd 426).drop 60) = true := zokN_join 30 _ zk_426_60 (by rw [List.drop_drop]; exact h90)
  have h30 : zokL 426 ((cd 426).drop 30) = true := zokN_join 30 _ zk_426_30 (by rw [List.drop_drop]; exact h60)
  have h0 : zokL 426 ((cd 426).drop 0) = true := zokN_join 30 _ zk_426_0 (by rw [List.drop_drop]; exact h30)
  exact h0
theorem zk_427_0 : zokN 427 30 ((cd 427).drop 0) = true := by decide +kernel
theorem zk_427_30 : zokN 427 30 ((cd 427).drop 30) = true := by decide +kernel
theorem zk_427 : zokL 427 (cd 427) = true := by
  have h60 : zokL 427 ((cd 427).drop 60) = true := rfl
  have h30 : zokL 427 ((cd 427).drop 30) = true := zokN_join 30 _ zk_427_30 (by rw [List.drop_drop]; exact h60)
  have h0 : zokL 427 ((cd 427).drop 0) = true := zokN_join 30 _ zk_427_0 (by rw [List.drop_drop]; exact h30)
  exact h0
theorem zk_428_0 : zokN 428 30 ((cd 428).drop 0) = true := by decide +kernel
theorem zk_428 : zokL 428 (cd 428) = true := by
  have h30 : zokL 428 ((cd 428).drop 30) = true := rfl
  have h0 : zokL 428 ((cd 428).drop 0) = true := zokN_join 30 _ zk_428_0 (by rw [List.drop_drop]; exact h30)
  exact h0
theorem zk_429_0 : zokN 429 30 ((cd 429).drop 0) = true := by decide +kernel
theorem zk_429_30 : zokN 429 30 ((cd 429).drop 30) = true := by decide +kernel
theorem zk_429_60 : zokN 429 30 ((cd 429).drop 60) = true := by decide +kernel
theorem zk_429_90 : zokN 429 30 ((cd 429).drop 90) = true := by decide +kernel
theorem zk_429 : zokL 429 (cd 429) = true := by
  have h120 : zokL 429 ((cd 429).drop 120) = true := rfl
  have h90 : zokL 429 ((cd 429).drop 90) = true := zokN_join 30 _ zk_429_90 (by rw [List.drop_drop]; exact h120)
  have h60 : zokL 429 ((cd 429).drop 60) = true := zokN_join 30 _ zk_429_60 (by rw [List.drop_drop]; exact h90)
  have h30 : zokL 429 ((cd 429).drop 30) = true := zokN_join 30 _ zk_429_30 (by rw [List.drop_drop]; exact h60)
  have h0 : zokL 429 ((cd 429).drop 0) = true := zokN_join 30 _ zk_429_0 (by rw [List.drop_drop]; exact h30)
  exact h0
theorem zk_430_0 : zokN 430 30 ((cd 430).drop 0) = true := by decide +kernel
theorem zk_430_30 : zokN 430 30 ((cd 430).drop 30) = true := by decide +kernel
theorem zk_430_60 : zokN 430 30 ((cd 430).drop 60) = true := by decide +kernel
theorem zk_430 : zokL 430 (cd 430) = true := by
  have h90 : zokL 430 ((cd 430).drop 90) = true := rfl
  have h60 : zokL 430 ((cd 430).drop 60) = true := zokN_join 30 _ zk_430_60 (by rw [List.drop_drop]; exact h90)
  have h30 : zokL 430 ((cd 430).drop 30) = true := zokN_join 30 _ zk_430_30 (by rw [List.drop_drop]; exact h60)
  have h0 : zokL 430 ((cd 430).drop 0) = true := zokN_join 30 _ zk_430_0 (by rw [List.drop_drop]; exact h30)
  exact h0
theorem zk_431_0 : zokN 431 30 ((cd 431).drop 0) = true := by decide +kernel
theorem zk_431_30 : zokN 431 30 ((cd 431).drop 30) = true := by decide +kernel
theorem zk_431_60 : zokN 431 30 ((cd 431).drop 60) = true := by decide +kernel
theorem zk_431_90 : zokN 431 30 ((cd 431).drop 90) = true := by decide +kernel
theorem zk_431 : zokL 431 (cd 431) = true := by
  have h120 : zokL 431 ((cd 431).drop 120) = true := rfl
  have h90 : zokL 431 ((cd 431).drop 90) = true := zokN_join 30 _ zk_431_90 (by rw [List.drop_drop]; exact h120)
  have h60 : zokL 431 ((cd 431).drop 60) = true := zokN_join 30 _ zk_431_60 (by rw [List.drop_drop]; exact h90)
  have h30 : zokL 431 ((cd 431).drop 30) = true := zokN_join 30 _ zk_431_30 (by rw [List.drop_drop]; exact h60)
  have h0 : zokL 431 ((cd 431).drop 0) = true := zokN_join 30 _ zk_431_0 (by rw [List.drop_drop]; exact h30)
  exact h0
theorem zk_432_0 : zokN 432 30 ((cd 432).drop 0) = true := by decide +kernel
theorem zk_432_30 : zokN 432 30 ((cd 432).drop 30) = true := by decide +kernel
theorem zk_432_60 : zokN 432 30 ((cd 432).drop 60) = true := by decide +kernel
theorem zk_432_90 : zokN 432 30 ((cd 432).drop 90) = true := by decide +kernel
theorem zk_432_120 : zokN 432 30 ((cd 432).drop 120) = true := by decide +kernel
theorem zk_432_150 : zokN 432 30 ((cd 432).drop 150) = true := by decide +kernel
theorem zk_432_180 : zokN 432 30 ((cd 432).drop 180) = true := by decide +kernel
theorem zk_432_210 : zokN 432 30 ((cd 432).drop 210) = true := by decide +kernel
theorem zk_432_240 : zokN 432 30 ((cd 432).drop 240) = true := by decide +kernel
theorem zk_432_270 : zokN 432 30 ((cd 432).drop 270) = true := by decide +kernel
theorem zk_432_300 : zokN 432 30 ((cd 432).drop 300) = true := by decide +kernel
theorem zk_432_330 : zokN 432 30 ((cd 432).drop 330) = true := by decide +kernel
theorem zk_432_360 : zokN 432 30 ((cd 432).drop 360) = true := by decide +kernel
theorem zk_432_390 : zokN 432 30 ((cd 432).drop 390) = true := by decide +kernel
theorem zk_432_420 : zokN 432 30 ((cd 432).drop 420) = true := by decide +kernel
theorem zk_432 : zokL 432 (cd 432) = true := by
  have h450 : zokL 432 ((cd 432).drop 450) = true := rfl
  have h420 : zokL 432 ((cd 432).drop 420) = true := zokN_join 30 _ zk_432_420 (by rw [List.drop_drop]; exact h450)
  have h390 : zokL 432 ((cd 432).drop 390) = true := zokN_join 30 _ zk_432_390 (by rw [List.drop_drop]; exact h420)
  have h360 : zokL 432 ((cd 432).drop 360) = true := zokN_join 30 _ zk_432_360 (by rw [List.drop_drop]; exact h390)
  have h330 : zokL 432 ((cd 432).drop 330) = true := zokN_join 30 _ zk_432_330 (by rw [List.drop_drop]; exact h360)
  have h300 : zokL 432 ((cd 432).drop 300) = true := zokN_join 30 _ zk_432_300 (by rw [List.drop_drop]; exact h330)
  have h270 : zokL 432 ((cd 432).drop 270) = true := zokN_join 30 _ zk_432_270 (by rw [List.drop_drop]; exact h300)
  have h240 : zokL 432 ((cd 432).drop 240) = true := zokN_join 30 _ zk_432_240 (by rw [List.drop_drop]; exact h270)
  have h210 : zokL 432 ((cd 432).drop 210) = true := zokN_join 30 _ zk_432_210 (by rw [List.drop_drop]; exact h240)
  have h180 : zokL 432 ((cd 432).drop 180) = true := zokN_join 30 _ zk_432_180 (by rw [List.drop_drop]; exact h210)
  have h150 : zokL 432 ((cd 432).drop 150) = true := zokN_join 30 _ zk_432_150 (by rw [List.drop_drop]; exact h180)
  have h120 : zokL 432 ((cd 432).drop 120) = true := zokN_join 30 _ zk_432_120 (by rw [List.drop_drop]; exact h150)
  have h90 : zokL 432 ((cd 432).drop 90) = true := zokN_join 30 _ zk_432_90 (by rw [List.drop_drop]; exact h120)
  have h60 : zokL 432 ((cd 432).drop 60) = true := zokN_join 30 _ zk_432_60 (by rw [List.drop_drop]; exact h90)
  have h30 : zokL 432 ((cd 432).drop 30) = true := zokN_join 30 _ zk_432_30 (by rw [List.drop_drop]; exact h60)
  have h0 : zokL 432 ((cd 432).drop 0) = true := zokN_join 30 _ zk_432_0 (by rw [List.drop_drop]; exact h30)
  exact h0
theorem zk_433_0 : zokN 433 30 ((cd 433).drop 0) = true := by decide +kernel
theorem zk_433_30 : zokN 433 30 ((cd 433).drop 30) = true := by decide +kernel
theorem zk_433 : zokL 433 (cd 433) = true := by
  have h60 : zokL 433 ((cd 433).drop 60) = true := rfl
  have h30 : zokL 433 ((cd 433).drop 30) = true := zokN_join 30 _ zk_433_30 (by rw [List.drop_drop]; exact h60)
  have h0 : zokL 433 ((cd 433).drop 0) = true := zokN_join 30 _ zk_433_0 (by rw [List.drop_drop]; exact h30)
  exact h0
theorem zk_434_0 : zokN 434 30 ((cd 434).drop 0) = true := by decide +kernel
theorem zk_434_30 : zokN 434 30 ((cd 434).drop 30) = true := by decide +kernel
theorem zk_434 : zokL 434 (cd 434) = true := by
  have h60 : zokL 434 ((cd 434).drop 60) = true := rfl
  have h30 : zokL 434 ((cd 434).drop 30) = true := zokN_join 30 _ zk_434_30 (by rw [List.drop_drop]; exact h60)
  have h0 : zokL 434 ((cd 434).drop 0) = true := zokN_join 30 _ zk_434_0 (by rw [List.drop_drop]; exact h30)
  exact h0
theorem zk_435_0 : zokN 435 30 ((cd 435).drop 0) = true := by decide +kernel
theorem zk_435_30 : zokN 435 30 ((cd 435).drop 30) = true := by decide +kernel
theorem zk_435 : zokL 435 (cd 435) = true := by
  have h60 : zokL 435 ((cd 435).drop 60) = true := rfl
  have h30 : zokL 435 ((cd 435).drop 30) = true := zokN_join 30 _ zk_435_30 (by rw [List.drop_drop]; exact h60)
  have h0 : zokL 435 ((cd 435).drop 0) = true := zokN_join 30 _ zk_435_0 (by rw [List.drop_drop]; exact h30)
  exact h0
theorem zk_436_0 : zokN 436 30 ((cd 436).drop 0) = true := by decide +kernel
theorem zk_436_30 : zokN 436 30 ((cd 436).drop 30) = true := by decide +kernel
theorem zk_436_60 : zokN 436 30 ((cd 436).drop 60) = true := by decide +kernel
theorem zk_436 : zokL 436 (cd 436) = true := by
  have h90 : zokL 436 ((cd 436).drop 90) = true := rfl
  have h60 : zokL 436 ((cd 436).drop 60) = true := zokN_join 30 _ zk_436_60 (by rw [List.drop_drop]; exact h90)
  have h30 : zokL 436 ((cd 436).drop 30) = true := zokN_join 30 _ zk_436_30 (by rw [List.drop_drop]; exact h60)
  have h0 : zokL 436 ((cd 436).drop 0) = true := zokN_join 30 _ zk_436_0 (by rw [List.drop_drop]; exact h30)
  exact h0
theorem zk_437_0 : zokN 437 30 ((cd 437).drop 0) = true := by decide +kernel
theorem zk_437_30 : zokN 437 30 ((cd 437).drop 30) = true := by decide +kernel
theorem zk_437_60 : zokN 437 30 ((cd 437).drop 60) = true := by decide +kernel
theorem zk_437_90 : zokN 437 30 ((cd 437).drop 90) = true := by decide +kernel
theorem zk_437 : zokL 437 (cd 437) = true := by
  have h120 : zokL 437 ((cd 437).drop 120) = true := rfl
  have h90 : zokL 437 ((cd 437).drop 90) = true := zokN_join 30 _ zk_437_90 (by rw [List.drop_drop]; exact h120)
  have h60 : zokL 437 ((cd 437).drop 60) = true := zokN_join 30 _ zk_437_60 (by rw [List.drop_drop]; exact h90)
  have h30 : zokL 437 ((cd 437).drop 30) = true := zokN_join 30 _ zk_437_30 (by rw [List.drop_drop]; exact h60)
  have h0 : zokL 437 ((cd 437).drop 0) = true := zokN_join 30 _ zk_437_0 (by rw [List.drop_drop]; exact h30)
  exact h0
theorem zk_438_0 : zokN 438 30 ((cd 438).drop 0) = true := by decide +kernel
theorem zk_438 : zokL 438 (cd 438) = true := by
  have h30 : zokL 438 ((cd 438).drop 30) = true := rfl
  have h0 : zokL 438 ((cd 438).drop 0) = true := zokN_join 30 _ zk_438_0 (by rw [List.drop_drop]; exact h30)
  exact h0
theorem zk_439_0 : zokN 439 30 ((cd 439).drop 0) = true := by decide +kernel
theorem zk_439_30 : zokN 439 30 ((cd 439).drop 30) = true := by decide +kernel
theorem zk_439_60 : zokN 439 30 ((cd 439).drop 60) = true := by decide +kernel
theorem zk_439_90 : zokN 439 30 ((cd 439).drop 90) = true := by decide +kernel
theorem zk_439 : zokL 439 (cd 439) = true := by
  have h120 : zokL 439 ((cd 439).drop 120) = true := rfl
  have h90 : zokL 439 ((cd 439).drop 90) = true := zokN_join 30 _ zk_439_90 (by rw [List.drop_drop]; exact h120)
  have h60 : zokL 439 ((cd 439).drop 60) = true := zokN_join 30 _ zk_439_60 (by rw [List.drop_drop]; exact h90)
  have h30 : zokL 439 ((cd 439).drop 30) = true := zokN_join 30 _ zk_439_30 (by rw [List.drop_drop]; exact h60)
  have h0 : zokL 439 ((cd 439).drop 0) = true := zokN_join 30 _ zk_439_0 (by rw [List.drop_drop]; exact h30)
  exact h0
theorem zk_440_0 : zokN 440 30 ((cd 440).drop 0) = true := by decide +kernel
theorem zk_440 : zokL 440 (cd 440) = true := by
  have h30 : zokL 440 ((cd 440).drop 30) = true := rfl
  have h0 : zokL 440 ((cd 440).drop 0) = true := zokN_join 30 _ zk_440_0 (by rw [List.drop_drop]; exact h30)
  exact h0
theorem zk_441_0 : zokN 441 30 ((cd 441).drop 0) = true := by decide +kernel
theorem zk_441_30 : zokN 441 30 ((cd 441).drop 30) = true := by decide +kernel
theorem zk_441 : zokL 441 (cd 441) = true := by
  have h60 : zokL 441 ((cd 441).drop 60) = true := rfl
  have h30 : zokL 441 ((cd 441).drop 30) = true := zokN_join 30 _ zk_441_30 (by rw [List.drop_drop]; exact h60)
  have h0 : zokL 441 ((cd 441).drop 0) = true := zokN_join 30 _ zk_441_0 (by rw [List.drop_drop]; exact h30)
  exact h0
theorem zk_442_0 : zokN 442 30 ((cd 442).drop 0) = true := by decide +kernel
theorem zk_442_30 : zokN 442 30 ((cd 442).drop 30) = true := by decide +kernel
theorem zk_442 : zokL 442 (cd 442) = true := by
  have h60 : zokL 442 ((cd 442).drop 60) = true := rfl
  have h30 : zokL 442 ((cd 442).drop 30) = true := zokN_join 30 _ zk_442_30 (by rw [List.drop_drop]; exact h60)
  have h0 : zokL 442 ((cd 442).drop 0) = true := zokN_join 30 _ zk_442_0 (by rw [List.drop_drop]; exact h30)
  exact h0
theorem zk_443_0 : zokN 443 30 ((cd 443).drop 0) = true := by decide +kernel
theorem zk_443_30 : zokN 443 30 ((cd 443).drop 30) = true := by decide +kernel
theorem zk_443_60 : zokN 443 30 ((cd 443).drop 60) = true := by decide +kernel
theorem zk_443_90 : zokN 443 30 ((cd 443).drop 90) = true := by decide +kernel
theorem zk_443_120 : zokN 443 30 ((cd 443).drop 120) = true := by decide +kernel
theorem zk_443 : zokL 443 (cd 443) = true := by
  have h150 : zokL 443 ((cd 443).drop 150) = true := rfl
  have h120 : zokL 443 ((cd 443).drop 120) = true := zokN_join 30 _ zk_443_120 (by rw [List.drop_drop]; exact h150)
  have h90 : zokL 443 ((cd 443).drop 90) = true := zokN_join 30 _ zk_443_90 (by rw [List.drop_drop]; exact h120)
  have h60 : zokL 443 ((cd 443).drop 60) = true := zokN_join 30 _ zk_443_60 (by rw [List.drop_drop]; exact h90)
  have h30 : zokL 443 ((cd 443).drop 30) = true := zokN_join 30 _ zk_443_30 (by rw [List.drop_drop]; exact h60)
  have h0 : zokL 443 ((cd 443).drop 0) = true := zokN_join 30 _ zk_443_0 (by rw [List.drop_drop]; exact h30)
  exact h0
theorem zk_444_0 : zokN 444 30 ((cd 444).drop 0) = true := by decide +kernel
theorem zk_444 : zokL 444 (cd 444) = true := by
  have h30 : zokL 444 ((cd 444).drop 30) = true := rfl
  have h0 : zokL 444 ((cd 444).drop 0) = true := zokN_join 30 _ zk_444_0 (by rw [List.drop_drop]; exact h30)
  exact h0
theorem zk_445_0 : zokN 445 30 ((cd 445).drop 0) = true := by decide +kernel
theorem zk_445 : zokL 445 (cd 445) = true := by
  have h30 : zokL 445 ((cd 445).drop 30) = true := rfl
  have h0 : zokL 445 ((cd 445).drop 0) = true := zokN_join 30 _ zk_445_0 (by rw [List.drop_drop]; exact h30)
  exact h0
theorem zk_446_0 : zokN 446 30 ((cd 446).drop 0) = true := by decide +kernel
theorem zk_446 : zokL 446 (cd 446) = true := by
  have h30 : zokL 446 ((cd 446).drop 30) = true := rfl
  have h0 : zokL 446 ((cd 446).drop 0) = true := zokN_join 30 _ zk_446_0 (by rw [List.drop_drop]; exact h30)
  exact h0
theorem zk_447_0 : zokN 447 30 ((cd 447).drop 0) = true := by decide +kernel
theorem zk_447_30 : zokN 447 30 ((cd 447).drop 30) = true := by decide +kernel
theorem zk_447 : zokL 447 (cd 447) = true := by
  have h60 : zokL 447 ((cd 447).drop 60) = true := rfl
  have h30 : zokL 447 ((cd 447).drop 30) = true := zokN_join 30 _ zk_447_30 (by rw [List.drop_drop]; exact h60)
  have h0 : zokL 447 ((cd 447).drop 0) = true := zokN_join 30 _ zk_447_0 (by rw [List.drop_drop]; exact h30)
  exact h0
theorem zk_448_0 : zokN 448 30 ((cd 448).drop 0) = true := by decide +kernel
theorem zk_448 : zokL 448 (cd 448) = true := by
  have h30 : zokL 448 ((cd 448).drop 30) = true := rfl
  have h0 : zokL 448 ((cd 448).drop 0) = true := zokN_join 30 _ zk_448_0 (by rw [List.drop_drop]; exact h30)
  exact h0
theorem zk_449_0 : zokN 449 30 ((cd 449).drop 0) = true := by decide +kernel
theorem zk_449 : zokL 449 (cd 449) = true := by
  have h30 : zokL 449 ((cd 449).drop 30) = true := rfl
  have h0 : zokL 449 ((cd 449).drop 0) = true := zokN_join 30 _ zk_449_0 (by rw [List.drop_drop]; exact h30)
  exact h0
theorem zk_450_0 : zokN 450 30 ((cd 450).drop 0) = true := by decide +kernel
theorem zk_450 : zokL 450 (cd 450) = true := by
  have h30 : zokL 450 ((cd 450).drop 30) = true := rfl
  have h0 : zokL 450 ((cd 450).drop 0) = true := zokN_join 30 _ zk_450_0 (by rw [List.drop_drop]; exact h30)
  exact h0
theorem zk_451_0 : zokN 451 30 ((cd 451).drop 0) = true := by decide +kernel
theorem zk_451 : zokL 451 (cd 451) = true := by
  have h30 : zokL 451 ((cd 451).drop 30) = true := rfl
  have h0 : zokL 451 ((cd 451).drop 0) = true := zokN_join 30 _ zk_451_0 (by rw [List.drop_drop]; exact h30)
  exact h0
theorem zk_452_0 : zokN 452 30 ((cd 452).drop 0) = true := by decide +kernel
theorem zk_452 : zokL 452 (cd 452) = true := by
  have h30 : zokL 452 ((cd 452).drop 30) = true := rfl
  have h0 : zokL 452 ((cd 452).drop 0) = true := zokN_join 30 _ zk_452_0 (by rw [List.drop_drop]; exact h30)
  exact h0
theorem zk_453_0 : zokN 453 30 ((cd 453).drop 0) = true := by decide +kernel
theorem zk_453 : zokL 453 (cd 453) = true := by
  have h30 : zokL 453 ((cd 453).drop 30) = true := rfl
  have h0 : zokL 453 ((cd 453).drop 0) = true := zokN_join 30 _ zk_453_0 (by rw [List.drop_drop]; exact h30)
  exact h0
theorem zk_454_0 : zokN 454 30 ((cd 454).drop 0) = true := by decide +kernel
theorem zk_454 : zokL 454 (cd 454) = true := by
  have h30 : zokL 454 ((cd 454).drop 30) = true := rfl
  have h0 : zokL 454 ((cd 454).drop 0) = true := zokN_join 30 _ zk_454_0 (by rw [List.drop_drop]; exact h30)
  exact h0
theorem zk_455_0 : zokN 455 30 ((cd 455).drop 0) = true := by decide +kernel
theorem zk_455 : zokL 455 (cd 455) = true := by
  have h30 : zokL 455 ((cd 455).drop 30) = true := rfl
  have h0 : zokL 455 ((cd 455).drop 0) = true := zokN_join 30 _ zk_455_0 (by rw [List.drop_drop]; exact h30)
  exact h0
theorem zk_456_0 : zokN 456 30 ((cd 456).drop 0) = true := by decide +kernel
theorem zk_456 : zokL 456 (cd 456) = true := by
  have h30 : zokL 456 ((cd 456).drop 30) = true := rfl
  have h0 : zokL 456 ((cd 456).drop 0) = true := zokN_join 30 _ zk_456_0 (by rw [List.drop_drop]; exact h30)
  exact h0
theorem zk_457_0 : zokN 457 30 ((cd 457).drop 0) = true := by decide +kernel
theorem zk_457 : zokL 457 (cd 457) = true := by
  have h30 : zokL 457 ((cd 457).drop 30) = true := rfl
  have h0 : zokL 457 ((cd 457).drop 0) = true := zokN_join 30 _ zk_457_0 (by rw [List.drop_drop]; exact h30)
  exact h0
theorem zk_458_0 : zokN 458 30 ((cd 458).drop 0) = true := by decide +kernel
theorem zk_458 : zokL 458 (cd 458) = true := by
  have h30 : zokL 458 ((cd 458).drop 30) = true := rfl
  have h0 : zokL 458 ((cd 458).drop 0) = true := zokN_join 30 _ zk_458_0 (by rw [List.drop_drop]; exact h30)
  exact h0
theorem zk_459_0 : zokN 459 30 ((cd 459).drop 0) = true := by decide +kernel
theorem zk_459 : zokL 459 (cd 459) = true := by
  have h30 : zokL 459 ((cd 459).drop 30) = true := rfl
  have h0 : zokL 459 ((cd 459).drop 0) = true := zokN_join 30 _ zk_459_0 (by rw [List.drop_drop]; exact h30)
  exact h0
theorem zk_460_0 : zokN 460 30 ((cd 460).drop 0) = true := by decide +kernel
theorem zk_460 : zokL 460 (cd 460) = true := by
  have h30 : zokL 460 ((cd 460).drop 30) = true := rfl
  have h0 : zokL 460 ((cd 460).drop 0) = true := zokN_join 30 _ zk_460_0 (by rw [List.drop_drop]; exact h30)
  exact h0
theorem zk_461_0 : zokN 461 30 ((cd 461).drop 0) = true := by decide +kernel
theorem zk_461 : zokL 461 (cd 461) = true := by
  have h30 : zokL 461 ((cd 461).drop 30) = true := rfl
  have h0 : zokL 461 ((cd 461).drop 0) = true := zokN_join 30 _ zk_461_0 (by rw [List.drop_drop]; exact h30)
  exact h0
