set_option maxRecDepth 100000
set_option maxHeartbeats 4000000
theorem zk_242_0 : zokN 242 30 ((cd 242).drop 0) = true := by decide +kernel
theorem zk_242 : zokL 242 (cd 242) = true := by
  have h30 : zokL 242 ((cd 242).drop 30) = true := rfl
  have h0 : zokL 242 ((cd 242).drop 0) = true := zokN_join 30 _ zk_242_0 (by rw [List.drop_drop]; exact h30)
  exact h0
theorem zk_243_0 : zokN 243 30 ((cd 243).drop 0) = true := by decide +kernel
theorem zk_243_30 : zokN 243 30 ((cd 243).drop 30) = true := by decide +kernel
theorem zk_243_60 : zokN 243 30 ((cd 243).drop 60) = true := by decide +kernel
theorem zk_243_90 : zokN 243 30 ((cd 243).drop 90) = true := by decide +kernel
theorem zk_243 : zokL 243 (cd 243) = true := by
  have h120 : zokL 243 ((cd 243).drop 120) = true := rfl
  have h90 : zokL 243 ((cd 243).drop 90) = true := zokN_join 30 _ zk_243_90 (by rw [List.drop_drop]; exact h120)
  have h60 : zokL 243 ((cd 243).drop 60) = true := zokN_join 30 _ zk_243_60 (by rw [List.drop_drop]; exact h90)
  have h30 : zokL 243 ((cd 243).drop 30) = true := zokN_join 30 _ zk_243_30 (by rw [List.drop_drop]; exact h60)
  have h0 : zokL 243 ((cd 243).drop 0) = true := zokN_join 30 _ zk_243_0 (by rw [List.drop_drop]; exact h30)
  exact h0
theorem zk_244_0 : zokN 244 30 ((cd 244).drop 0) = true := by decide +kernel
theorem zk_244_30 : zokN 244 30 ((cd 244).drop 30) = true := by decide +kernel
theorem zk_244 : zokL 244 (cd 244) = true := by
  have h60 : zokL 244 ((cd 244).drop 60) = true := rfl
  have h30 : zokL 244 ((cd 244).drop 30) = true := zokN_join 30 _ zk_244_30 (by rw [List.drop_drop]; exact h60)
  have h0 : zokL 244 ((cd 244).drop 0) = true := zokN_join 30 _ zk_244_0 (by rw [List.drop_drop]; exact h30)
  exact h0
theorem zk_245_0 : zokN 245 30 ((cd 245).drop 0) = true := by decide +kernel
theorem zk_245_30 : zokN 245 30 ((cd 245).drop 30) = true := by decide +kernel
theorem zk_245 : zokL 245 (cd 245) = true := by
  have h60 : zokL 245 ((cd 245).drop 60) = true := rfl
  have h30 : zokL 245 ((cd 245).drop 30) = true := zokN_join 30 _ zk_245_30 (by rw [List.drop_drop]; exact h60)
  have h0 : zokL 245 ((cd 245).drop 0) = true := zokN_join 30 _ zk_245_0 (by rw [List.drop_drop]; exact h30)
  exact h0
theorem zk_246_0 : zokN 246 30 ((cd 246).drop 0) = true := by decide +kernel
theorem zk_246_30 : zokN 246 30 ((cd 246).drop 30) = true := by decide +kernel
theorem zk_246 : zokL 246 (cd 246) = true := by
  have h60 : zokL 246 ((cd 246).drop 60) = true := rfl
  have h30 : zokL 246 ((cd 246).drop 30) = true := zokN_join 30 _ zk_246_30 (by rw [List.drop_drop]; exact h60)
  have h0 : zokL 246 ((cd 246).drop 0) = true := zokN_join 30 _ zk_246_0 (by rw [List.drop_drop]; exact h30)
  exact h0
theorem zk_247_0 : zokN 247 30 ((cd 247).drop 0) = true := by decide +kernel
theorem zk_247_30 : zokN 247 30 ((cd 247).drop 30) = true := by decide +kernel
theorem zk_247_60 : zokN 247 30 ((cd 247).drop 60) = true := by decide +kernel
theorem zk_247_90 : zokN 247 30 ((cd 247).drop 90) = true := by decide +kernel
theorem zk_247_120 : zokN 247 30 ((cd 247).drop 120) = true := by decide +kernel
theorem zk_247 : zokL 247 (cd 247) = true := by
  have h150 : zokL 247 ((cd 247).drop 150) = true := rfl
  have h120 : zokL 247 ((cd 247).drop 120) = true := zokN_join 30 _ zk_247_120 (by rw [List.drop_drop]; exact h150)
  have h90 : zokL 247 ((cd 247).drop 90) = true := zokN_join 30 _ zk_247_90 (by rw [List.drop_drop]; exact h120)
  have h60 : zokL 247 ((cd 247).drop 60) = true := zokN_join 30 _ zk_247_60 (by rw [List.drop_drop]; exact h90)
  have h30 : zokL 247 ((cd 247).drop 30) = true := zokN_join 30 _ zk_247_30 (by rw [List.drop_drop]; exact h60)
  have h0 : zokL 247 ((cd 247).drop 0) = true := zokN_join 30 _ zk_247_0 (by rw [List.drop_drop]; exact h30)
  exact h0
theorem zk_248_0 : zokN 248 30 ((cd 248).drop 0) = true := by decide +kernel
theorem zk_248 : zokL 248 (cd 248) = true := by
  have h30 : zokL 248 ((cd 248).drop 30) = true := rfl
  have h0 : zokL 248 ((cd 248).drop 0) = true := zokN_join 30 _ zk_248_0 (by rw [List.drop_drop]; exact h30)
  exact h0
theorem zk_249_0 : zokN 249 30 ((cd 249).drop 0) = true := by decide +kernel
theorem zk_249 : zokL 249 (cd 249) = true := by
  have h30 : zokL 249 ((cd 249).drop 30) = true := rfl
  have h0 : zokL 249 ((cd 249).drop 0) = true := zokN_join 30 _ zk_249_0 (by rw [List.drop_drop]; exact h30)
  exact h0
theorem zk_250_0 : zokN 250 30 ((cd 250).drop 0) = true := by decide +kernel
theorem zk_250_30 : zokN 250 30 ((cd 250).drop 30) = true := by decide +kernel
theorem zk_250 : zokL 250 (cd 250) = true := by
  have h60 : zokL 250 ((cd 250).drop 60) = true := rfl
  have h30 : zokL 250 ((cd 250).drop 30) = true := zokN_join 30 _ zk_250_30 (by rw [List.drop_drop]; exact h60)
  have h0 : zokL 250 ((cd 250).drop 0) = true := zokN_join 30 _ zk_250_0 (by rw [List.drop_drop]; exact h30)
  exact h0
theorem zk_251_0 : zokN 251 30 ((cd 251).drop 0) = true := by decide +kernel
theorem zk_251 : zokL 251 (cd 251) = true := by
  have h30 : zokL 251 ((cd 251).drop 30) = true := rfl
  have h0 : zokL 251 ((cd 251).drop 0) = true := zokN_join 30 _ zk_251_0 (by rw [List.drop_drop]; exact h30)
  exact h0
theorem zk_252_0 : zokN 252 30 ((cd 252).drop 0) = true := by decide +kernel
theorem zk_252_30 : zokN 252 30 ((cd 252).drop 30) = true := by decide +kernel
theorem zk_252_60 : zokN 252 30 ((cd 252).drop 60) = true := by decide +kernel
theorem zk_252 : zokL 252 (cd 252) = true := by
  have h90 : zokL 252 ((cd 252).drop 90) = true := rfl
  have h60 : zokL 252 ((cd 252).drop 60) = true := zokN_join 30 _ zk_252_60 (by rw [List.drop_drop]; exact h90)
  have h30 : zokL 252 ((cd 252).drop 30) = true := zokN_join 30 _ zk_252_30 (by rw [List.drop_drop]; exact h60)
  have h0 : zokL 252 ((cd 252).drop 0) = true := zokN_join 30 _ zk_252_0 (by rw [List.drop_drop]; exact h30)
  exact h0
theorem zk_253_0 : zokN 253 30 ((cd 253).drop 0) = true := by decide +kernel
theorem zk_253_30 : zokN 253 30 ((cd 253).drop 30) = true := by decide +kernel
theorem zk_253_60 : zokN 253 30 ((cd 253).drop 60) = true := by decide +kernel
theorem zk_253_90 : zokN 253 30 ((cd 253).drop 90) = true := by decide +kernel
theorem zk_253 : zokL 253 (cd 253) = true := by
  have h120 : zokL 253 ((cd 253).drop 120) = true := rfl
  have h90 : zokL 253 ((cd 253).drop 90) = true := zokN_join 30 _ zk_253_90 (by rw [List.drop_drop]; exact h120)
  have h60 : zokL 253 ((cd 253).drop 60) = true := zokN_join 30 _ zk_253_60 (by rw [List.drop_drop]; exact h90)
  have h30 : zokL 253 ((cd 253).drop 30) = true := zokN_join 30 _ zk_253_30 (by rw [List.drop_drop]; exact h60)
  have h0 : zokL 253 ((cd 253).drop 0) = true := zokN_join 30 _ zk_253_0 (by rw [List.drop_drop]; exact h30)
  exact h0
theorem zk_254_0 : zokN 254 30 ((cd 254).drop 0) = true := by decide +kernel
theorem zk_254 : zokL 254 (cd 254) = true := by
  have h30 : zokL 254 ((cd 254).drop 30) = true := rfl
  have h0 : zokL 254 ((cd 254).drop 0) = true := zokN_join 30 _ zk_254_0 (by rw [List.drop_drop]; exact h30)
  exact h0
theorem zk_255_0 : zokN 255 30 ((cd 255).drop 0) = true := by decide +kernel
theorem zk_255 : zokL 255 (cd 255) = true := by
  have h30 : zokL 255 ((cd 255).drop 30) = true := rfl
  have h0 : zokL 255 ((cd 255).drop 0) = true := zokN_join 30 _ zk_255_0 (by rw [List.drop_drop]; exact h30)
  exact h0
theorem zk_256_0 : zokN 256 30 ((cd 256).drop 0) = true := by decide +kernel
theorem zk_256 : zokL 256 (cd 256) = true := by
  have h30 : zokL 256 ((cd 256).drop 30) = true := rfl
  have h0 : zokL 256 ((cd 256).drop 0) = true := zokN_join 30 _ zk_256_0 (by rw [List.drop_drop]; exact h30)
  exact h0
theorem zk_257_0 : zokN 257 30 ((cd 257).drop 0) = true := by decide +kernel
theorem zk_257 : zokL 257 (cd 257) = true := by
  have h30 : zokL 257 ((cd 257).drop 30) = true := rfl
  have h0 : zokL 257 ((cd 257).drop 0) = true := zokN_join 30 _ zk_257_0 (by rw [List.drop_drop]; exact h30)
  exact h0
theorem zk_258_0 : zokN 258 30 ((cd 258).drop 0) = true := by decide +kernel
theorem zk_258_30 : zokN 258 30 ((cd 258).drop 30) = true := by decide +kernel
theorem zk_258_60 : zokN 258 30 ((cd 258).drop 60) = true := by decide +kernel
theorem zk_258_90 : zokN 258 30 ((cd 258).drop 90) = true := by decide +kernel
theorem zk_258_120 : zokN 258 30 ((cd 258).drop 120) = true := by decide +kernel
theorem zk_258_150 : zokN 258 30 ((cd 258).drop 150) = true := by decide +kernel
theorem zk_258 : zokL 258 (cd 258) = true := by
  have h180 : zokL 258 ((cd 258).drop 180) = true := rfl
  have h150 : zokL 258 ((cd 258).drop 150) = true := zokN_join 30 _ zk_258_150 (by rw [List.drop_drop]; exact h180)
  have h120 : zokL 258 ((cd 258).drop 120) = true := zokN_join 30 _ zk_258_120 (by rw [List.drop_drop]; exact h150)
  have h90 : zokL 258 ((cd 258).drop 90) = true := zokN_join 30 _ zk_258_90 (by rw [List.drop_drop]; exact h120)
  have h60 : zokL 258 ((cd 258).drop 60) = true := zokN_join 30 _ zk_258_60 (by rw [List.drop_drop]; exact h90)
  have h30 : zokL 258 ((cd 258).drop 30) = true := zokN_join 30 _ zk_258_30 (by rw [List.drop_drop]; exact h60)
  have h0 : zokL 258 ((cd 258).drop 0) = true := zokN_join 30 _ zk_258_0 (by rw [List.drop_drop]; exact h30)
  exact h0
theorem zk_259_0 : zokN 259 30 ((cd 259).drop 0) = true := by decide +kernel
theorem zk_259 : zokL 259 (cd 259) = true := by
  have h30 : zokL 259 ((cd 259).drop 30) = true := rfl
  have h0 : zokL 259 ((cd 259).drop 0) = true := zokN_join 30 _ zk_259_0 (by rw [List.drop_drop]; exact h30)
  exact h0
theorem zk_260_0 : zokN 260 30 ((cd 260).drop 0) = true := by decide +kernel
theorem zk_260 : zokL 260 (cd 260) = true := by
  have h30 : zokL 260 ((cd 260).drop 30) = true := rfl
  have h0 : zokL 260 ((cd 260).drop 0) = true := zokN_join 30 _ zk_260_0 (by rw [List.drop_drop]; exact h30)
  exact h0
theorem zk_261_0 : zokN 261 30 ((cd 261).drop 0) = true := by decide +kernel
theorem zk_261_30 : zokN 261 30 ((cd 261).drop 30) = true := by decide +kernel
theorem zk_261_60 : zokN 261 30 ((cd 261).drop 60) = true := by decide +kernel
theorem zk_261 : zokL 261 (cd 261) = true := by
  have h90 : zokL 261 ((cd 261).drop 90) = true := rfl
  have h60 : zokL 261 ((cd 261).drop 60) = true := zokN_join 30 _ zk_261_60 (by rw [List.drop_drop]; exact h90)
  have h30 : zokL 261 ((cd 261).drop 30) = true := zokN_join 30 _ zk_261_30 (by rw [List.drop_drop]; exact h60)
  have h0 : zokL 261 ((cd 261).drop 0) = true := zokN_join 30 _ zk_261_0 (by rw [List.drop_drop]; exact h30)
  exact h0
theorem zk_262_0 : zokN 262 30 ((cd 262).drop 0) = true := by decide +kernel
theorem zk_262_30 : zokN 262 30 ((cd 262).drop 30) = true := by decide +kernel
theorem zk_262_60 : zokN 262 30 ((cd 262).drop 60) = true := by decide +kernel
theorem zk_262 : zokL 262 (cd 262) = true := by
  have h90 : zokL 262 ((cd 262).drop 90) = true := rfl
  have h60 : zokL 262 ((cd 262).drop 60) = true := zokN_join 30 _ zk_262_60 (by rw [List.drop_drop]; exact h90)
  have h30 : zokL 262 ((cd 262).drop 30) = true := zokN_join 30 _ zk_262_30 (by rw [List.drop_drop]; exact h60)
  have h0 : zokL 262 ((cd 262).drop 0) = true := zokN_join 30 _ zk_262_0 (by rw [List.drop_drop]; exact h30)
  exact h0
theorem zk_263_0 : zokN 263 30 ((cd 263).drop 0) = true := by decide +kernel
theorem zk_263_30 : zokN 263 30 ((cd 263).drop 30) = true := by decide +kernel
theorem zk_263_60 : zokN 263 30 ((cd 263).drop 60) = true := by decide +kernel
theorem zk_263 : zokL 263 (cd 263) = true := by
  have h90 : zokL 263 ((cd 263).drop 90) = true := rfl
  have h60 : zokL 263 ((cd 263).drop 60) = true := zokN_join 30 _ zk_263_60 (by rw [List.drop_drop]; exact h90)
  have h30 : zokL 263 ((cd 263).drop 30) = true := zokN_join 30 _ zk_263_30 (by rw [List.drop_drop]; exact h60)
  have h0 : zokL 263 ((cd 263).drop 0) = true := zokN_join 30 _ zk_263_0 (by rw [List.drop_drop]; exact h30)
  exact h0
theorem zk_264_0 : zokN 264 30 ((cd 264).drop 0) = true := by decide +kernel
theorem zk_264_30 : zokN 264 30 ((cd 264).drop 30) = true := by decide +kernel
theorem zk_264_60 : zokN 264 30 ((cd 264).drop 60) = true := by decide +kernel
theorem zk_264_90 : zokN 264 30 ((cd 264).drop 90) = true := by decide +kernel
theorem zk_264 : zokL 264 (cd 264) = true := by
  have h120 : zokL 264 ((cd 264).drop 120) = true := rfl
  have h90 : zokL 264 ((cd 264).drop 90) = true := zokN_join 30 _ zk_264_90 (by rw [List.drop_drop]; exact h120)
  have h60 : zokL 264 ((cd 264).drop 60) = true := zokN_join 30 _ zk_264_60 (by rw [List.drop_drop]; exact h90)
  have h30 : zokL 264 ((cd 264).drop 30) = true := zokN_join 30 _ zk_264_30 (by rw [List.drop_drop]; exact h60)
  have h0 : zokL 264 ((cd 264).drop 0) = true := zokN_join 30 _ zk_264_0 (by rw [List.drop_drop]; exact h30)
  exact h0
theorem zk_265_0 : zokN 265 30 ((cd 265).drop 0) = true := by decide +kernel
theorem zk_265_30 : zokN 265 30 ((cd 265).drop 30) = true := by decide +kernel
theorem zk_265_60 : zokN 265 30 ((cd 265).drop 60) = true := by decide +kernel
theorem zk_265_90 : zokN 265 30 ((cd 265).drop 90) = true := by decide +kernel
theorem zk_265 : zokL 265 (cd 265) = true := by
  have h120 : zokL 265 ((cd 265).drop 120) = true := rfl
  have h90 : zokL 265 ((cd 265).drop 90) = true := zokN_join 30 _ zk_265_90 (by rw [List.drop_drop]; exact h120)
  have h60 : zokL 265 ((cd 265).drop 60) = true := zokN_join 30 _ zk_265_60 (by rw [List.drop_drop]; exact h90)
  have h30 : zokL 265 ((cd 265).drop 30) = true := zokN_join 30 _ zk_265_30 (by rw [List.drop_drop]; exact h60)
  have h0 : zokL 265 ((cd 265).drop 0) = true := zokN_join 30 _ zk_265_0 (by rw [List.drop_drop]; exact h30)
  exact h0
theorem zk_266_0 : zokN 266 30 ((cd 266).drop 0) = true := by decide +kernel
theorem zk_266_30 : zokN 266 30 ((cd 266).drop 30) = true := by decide +kernel
theorem zk_266_60 : zokN 266 30 ((cd 266).drop 60) = true := by decide +kernel
theorem zk_266_90 : zokN 266 30 ((cd 266).drop 90) = true := by decide +kernel
theorem zk_266_120 : zokN 266 30 ((cd 266).drop 120) = true := by decide +kernel
theorem zk_266 : zokL 266 (cd 266) = true := by
  have h150 : zokL 266 ((cd 266).drop 150) = true := rfl
  have h120 : zokL 266 ((cd 266).drop 120) = true := zokN_join 30 _ zk_266_120 (by rw [List.drop_drop]; exact h150)
  have h90 : zokL 266 ((cd 266).drop 90) = true := zokN_join 30 _ zk_266_90 (by rw [List.drop_drop]; exact h120)
  have h60 : zokL 266 ((cd 266).drop 60) = true := zokN_join 30 _ zk_266_60 (by rw [List.drop_drop]; exact h90)
  have h30 : zokL 266 ((cd 266).drop 30) = true := zokN_join 30 _ zk_266_30 (by rw [List.drop_drop]; exact h60)
  have h0 : zokL 266 ((cd 266).drop 0) = true := zokN_join 30 _ zk_266_0 (by rw [List.drop_drop]; exact h30)
  exact h0
theorem zk_267_0 : zokN 267 30 ((cd 267).drop 0) = true := by decide +kernel
theorem zk_267_30 : zokN 267 30 ((cd 267).drop 30) = true := by decide +kernel
theorem zk_267 : zokL 267 (cd 267) = true := by
  have h60 : zokL 267 ((cd 267).drop 60) = true := rfl
  have h30 : zokL 267 ((cd 267).drop 30) = true := zokN_join 30 _ zk_267_30 (by rw [List.drop_drop]; exact h60)
  have h0 : zokL 267 ((cd 267).drop 0) = true := zokN_join 30 _ zk_267_0 (by rw [List.drop_drop]; exact h30)
  exact h0
theorem zk_268_0 : zokN 268 30 ((cd 268).drop 0) = true := by decide +kernel
theorem zk_268 : zokL 268 (cd 268) = true := by
  have h30 : zokL 268 ((cd 268).drop 30) = true := rfl
  have h0 : zokL 268 ((cd 268).drop 0) = true := zokN_join 30 _ zk_268_0 (by rw [List.drop_drop]; exact h30)
  exact h0
theorem zk_269_0 : zokN 269 30 ((cd 269).drop 0) = true := by decide +kernel
theorem zk_269_30 : zokN 269 30 ((cd 269).drop 30) = true := by decide +kernel
theorem zk_269_60 : zokN 269 30 ((cd 269).drop 60) = true := by decide +kernel
theorem zk_269 : zokL 269 (cd 269) = true := by
  have h90 : zokL 269 ((cd 269).drop 90) = true := rfl
  have h60 : zokL 269 ((cd 269).drop 60) = true := zokN_join 30 _ zk_269_60 (by rw [List.drop_drop]; exact h90)
  have h30 : zokL 269 ((cd 269).drop 30) = true := zokN_join 30 _ zk_269_30 (by rw [List.drop_drop]; exact h60)
  have h0 : zokL 269 ((cd 269).drop 0) = true := zokN_join 30 _ zk_269_0 (by rw [List.drop_drop]; exact h30)
  exact h0
theorem zk_270_0 : zokN 270 30 ((cd 270).drop 0) = true := by decide +kernel
theorem zk_270_30 : zokN 270 30 ((cd 270).drop 30) = true := by decide +kernel
theorem zk_270_60 : zokN 270 30 ((cd 270).drop 60) = true := by decide +kernel
theorem zk_270_90 : zokN 270 30 ((cd 270).drop 90) = true := by decide +kernel
theorem zk_270_120 : zokN 270 30 ((cd 270).drop 120) = true := by decide +kernel
theorem zk_270_150 : zokN 270 30 ((cd 270).drop 150) = true := by decide +kernel
theorem zk_270_180 : zokN 270 30 ((cd 270).drop 180) = true := by decide +kernel
theorem zk_270_210 : zokN 270 30 ((cd 270).drop 210) = true := by decide +kernel
theorem zk_270_240 : zokN 270 30 ((cd 270).drop 240) = true := by decide +kernel
theorem zk_270_270 : zokN 270 30 ((cd 270).drop 270) = true := by decide +kernel
theorem zk_270_300 : zokN 270 30 ((cd 270).drop 300) = true := by decide +kernel
theorem zk_270_330 : zokN 270 30 ((cd 270).drop 330) = true := by decide +kernel
theorem zk_270_360 : zokN 270 30 ((cd 270).drop 360) = true := by decide +kernel
theorem zk_270_390 : zokN 270 30 ((cd 270).drop 390) = true := by decide +kernel
theorem zk_270_420 : zokN 270 30 ((cd 270).drop 420) = true := by decide +kernel
theorem zk_270_450 : zokN 270 30 ((cd 270).drop 450) = true := by decide +kernel
theorem zk_270_480 : zokN 270 30 ((cd 270).drop 480) = true := by decide +kernel
theorem zk_270 : zokL 270 (cd 270) = true := by
  have h510 : zokL 270 ((cd 270).drop 510) = true := rfl
  have h480 : zokL 270 ((cd 270).drop 480) = true := zokN_join 30 _ zk_270_480 (by rw [List.drop_drop]; exact h510)
  have h450 : zokL 270 ((cd 270).drop 450) = true := zokN_join 30 _ zk_270_450 (by rw [List.drop_drop]; exact h480)
  have h420 : zokL 270 ((cd 270).drop 420) = true := zokN_join 30 _ zk_270_420 (by rw [List.drop_drop]; exact h450)
  have h390 : zokL 270 ((cd 270).drop 390) = true := zokN_join 30 _ zk_270_390 (by rw [List.drop_drop]; exact h420)
  have h360 : zokL 270 ((cd 270).drop 360) = true := zokN_join 30 _ zk_270_360 (by rw [List.drop_drop]; exact h390)
  have h330 : zokL 270 ((cd 270).drop 330) = true := zokN_join 30 _ zk_270_330 (by rw [List.drop_drop]; exact h360)
  have h300 : zokL 270 ((cd 270).drop 300) = true := zokN_join 30 _ zk_270_300 (by rw [List.drop_drop]; exact h330)
  have h270 : zokL 270 ((cd 270).drop 270) = true := zokN_join 30 _ zk_270_270 (by rw [List.drop_drop]; exact h300)
  have h240 : zokL 270 ((cd 270).drop 240) = true := zokN_join 30 _ zk_270_240 (by rw [List.drop_drop]; exact h270)
  have h210 : zokL 270 ((cd 270).drop 210) = true := zokN_join 30 _ zk_270_210 (by rw [List.drop_drop]; exact h240)
  have h180 : zokL 270 ((cd 270).drop 180) = true := zokN_join 30 _ zk_270_180 (by rw [List.drop_drop]; exact h210)
  have h150 : zokL 270 ((cd 270).drop 150) = true := zokN_join 30 _ zk_270_150 (by rw [List.drop_drop]; exact h180)
  have h120 : zokL 270 ((cd 270).drop 120) = true := zokN_join 30 _ zk_270_120 (by rw [List.drop_drop]; exact h150)
  have h90 : zokL 270 ((cd 270).drop 90) = true := zokN_join 30 _ zk_270_90 (by rw [List.drop_drop]; exact h120)
  have h60 : zokL 270 ((cd 270).drop 60) = true := zokN_join 30 _ zk_270_60 (by rw [List.drop_drop]; exact h90)
  have h30 : zokL 270 ((cd 270).drop 30) = true := zokN_join 30 _ zk_270_30 (by rw [List.drop_drop]; exact h60)
  have h0 : zokL 270 ((cd 270).drop 0) = true := zokN_join 30 _ zk_270_0 (by rw [List.drop_drop]; exact h30)
  exact h0
theorem zk_271_0 : zokN 271 30 ((cd 271).drop 0) = true := by decide +kernel
theorem zk_271 : zokL 271 (cd 271) = true := by
  have h30 : zokL 271 ((cd 271).drop 30) = true := rfl
  have h0 : zokL 271 ((cd 271).drop 0) = true := zokN_join 30 _ zk_271_0 (by rw [List.drop_drop]; exact h30)
  exact h0
theorem zk_272_0 : zokN 272 30 ((cd 272).drop 0) = true := by decide +kernel
theorem zk_272 : zokL 272 (cd 272) = true := by
  have h30 : zokL 272 ((cd 272).drop 30) = true := rfl
  have h0 : zokL 272 ((cd 272).drop 0) = true := zokN_join 30 _ zk_272_0 (by rw [List.drop_drop]; exact h30)
  exact h0
theorem zk_273_0 : zokN 273 30 ((cd 273).drop 0) = true := by decide +kernel
theorem zk_273 : zokL 273 (cd 273) = true := by
  have h30 : zokL 273 ((cd 273).drop 30) = true := rfl
  have h0 : zokL 273 ((cd 273).drop 0) = true := zokN_join 30 _ zk_273_0 (by rw [List.drop_drop]; exact h30)
  exact h0
theorem zk_274_0 : zokN 274 30 ((cd 274).drop 0) = true := by decide +kernel
theorem zk_274 : zokL 274 (cd 274) = true := by
  have h30 : zokL 274 ((cd 274).drop 30) = true := rfl
  have h0 : zokL 274 ((cd 274).drop 0) = true := zokN_join 30 _ zk_274_0 (by rw [List.drop_drop]; exact h30)
  exact h0
theorem zk_275_0 : zokN 275 30 ((cd 275).drop 0) = true := by decide +kernel
theorem zk_275 : zokL 275 (cd 275) = true := by
  have h30 : zokL 275 ((cd 275).drop 30) = true := rfl
  have h0 : zokL 275 ((cd 275).drop 0) = true := zokN_join 30 _ zk_275_0 (by rw [List.drop_drop]; exact h30)
  exact h0
theorem zk_276_0 : zokN 276 30 ((cd 276).drop 0) = true := by decide +kernel
theorem zk_276_30 : zokN 276 30 ((cd 276).drop 30) = true := by decide +kernel
theorem zk_276_60 : zokN 276 30 ((cd 276).drop 60) = true := by decide +kernel
theorem zk_276_90 : zokN 276 30 ((cd 276).drop 90) = true := by decide +kernel
theorem zk_276 : zokL 276 (cd 276) = true := by
  have h120 : zokL 276 ((cd 276).drop 120) = true := rfl
  have h90 : zokL 276 ((cd 276).drop 90) = true := zokN_join 30 _ zk_276_90 (by rw [List.drop_drop]; exact h120)
  have h60 : zokL 276 ((cd 276).drop 60) = true := zokN_join 30 _ zk_276_60 (by rw [List.drop_drop]; exact h90)
  have h30 : zokL 276 ((cd 276).drop 30) = true := zokN_join 30 _ zk_276_30 (by rw [List.drop_drop]; exact h60)
  have h0 : zokL 276 ((cd 276).drop 0) = true := zokN_join 30 _ zk_276_0 (by rw [List.drop_drop]; exact h30)
  exact h0
theorem zk_277_0 : zokN 277 30 ((cd 277).drop 0) = true := by decide +kernel
theorem zk_277 : zokL 277 (cd 277) = true := by
  have h30 : zokL 277 ((cd 277).drop 30) = true := rfl
  have h0 : zokL 277 ((cd 277).drop 0) = true := zokN_join 30 _ zk_277_0 (by rw [List.drop_drop]; exact h30)
  exact h0
theorem zk_278_0 : zokN 278 30 ((cd 278).drop 0) = true := by decide +kernel
theorem zk_278_30 : zokN 278 30 ((cd 278).drop 30) = true := by decide +kernel
theorem zk_278_60 : zokN 278 30 ((cd 278).drop 60) = true := by decide +kernel
theorem zk_278_90 : zokN 278 30 ((cd 278).drop 90) = true := by decide +kernel
theorem zk_278_120 : zokN 278 30 ((cd 278).drop 120) = true := by decide +kernel
theorem zk_278_150 : zokN 278 30 ((cd 278).drop 150) = true := by decide +kernel
theorem zk_278_180 : zokN 278 30 ((cd 278).drop 180) = true := by decide +kernel
theorem zk_278_210 : zokN 278 30 ((cd 278).drop 210) = true := by decide +kernel
theorem zk_278 : zokL 278 (cd 278) = true := by
  have h240 : zokL 278 ((cd 278).drop 240) = true := rfl
  have h210 : zokL 278 ((cd 278).drop 210) = true := zokN_join 30 _ zk_278_210 (by rw [List.drop_drop]; exact h240)
  have h180 : zokL 278 ((cd 278).drop 180) = true := zokN_join 30 _ zk_278_180 (by rw [List.drop_drop]; exact h210)
  have h150 : zokL 278 ((cd 278).drop 150) = true := zokN_join 30 _ zk_278_150 (by rw [List.drop_drop]; exact h180)
  have h120 : zokL 278 ((cd 278).drop 120) = true := zokN_join 30 _ zk_278_120 (by rw [List.drop_drop]; exact h150)
  have h90 : zokL 278 ((cd 278).drop 90) = true := zokN_join 30 _ zk_278_90 (by rw [List.drop_drop]; exact h120)
  have h60 : zokL 278 ((cd 278).drop 60) = true := zokN_join 30 _ zk_278_60 (by rw [List.drop_drop]; exact h90)
  have h30 : zokL 278 ((cd 278).drop 30) = true := zokN_join 30 _ zk_278_30 (by rw [List.drop_drop]; exact h60)
  have h0 : zokL 278 ((cd 278).drop 0) = true := zokN_join 30 _ zk_278_0 (by rw [List.drop_drop]; exact h30)
  exact h0
theorem zk_279_0 : zokN 279 30 ((cd 279).drop 0) = true := by decide +kernel
theorem zk_279 : zokL 279 (cd 279) = true := by
  have h30 : zokL 279 ((cd 279).drop 30) = true := rfl
  have h0 : zokL 279 ((cd 279).drop 0) = true := zokN_join 30 _ zk_279_0 (by rw [List.drop_drop]; exact h30)
  exact h0
theorem zk_280_0 : zokN 280 30 ((cd 280).drop 0) = true := by decide +kernel
theorem zk_280 : zokL 280 (cd 280) = true := by
  have h30 : zokL 280 ((cd 280).drop 30) = true := rfl
  have h0 : zokL 280 ((cd 280).drop 0) = true := zokN_join 30 _ zk_280_0 (by rw [List.drop_drop]; exact h30)
  exact h0
theorem zk_281_0 : zokN 281 30 ((cd 281).drop 0) = true := by decide +kernel
theorem zk_281 : zokL 281 (cd 281) = true := by
  have h30 : zokL 281 ((cd 281).drop 30) = true := rfl
  have h0 : zokL 281 ((cd 281).drop 0) = true := zokN_join 30 _ zk_281_0 (by rw [List.drop_drop]; exact h30)
  exact h0
theorem zk_282_0 : zokN 282 30 ((cd 282).drop 0) = true := by decide +kernel
theorem zk_282 : zokL 282 (cd 282) = true := by
  have h30 : zokL 282 ((cd 282).drop 30) = true := rfl
  have h0 : zokL 282 ((cd 282).drop 0) = true := zokN_join 30 _ zk_282_0 (by rw [List.drop_drop]; exact h30)
  exact h0
theorem zk_283_0 : zokN 283 30 ((cd 283).drop 0) = true := by decide +kernel
theorem zk_283 : zokL 283 (cd 283) = true := by
  have h30 : zokL 283 ((cd 283).drop 30) = true := rfl
  have h0 : zokL 283 ((cd 283).drop 0) = true := zokN_join 30 _ zk_283_0 (by rw [List.drop_drop]; exact h30)
  exact h0
theorem zk_284_0 : zokN 284 30 ((cd 284).drop 0) = true := by decide +kernel
theorem zk_284 : zokL 284 (cd 284) = true := by
  have h30 : zokL 284 ((cd 284).drop 30) = true := rfl
  have h0 : zokL 284 ((cd 284).drop 0) = true := zokN_join 30 _ zk_284_0 (by rw [List.drop_drop]; exact h30)
  exact h0
theorem zk_285_0 : zokN 285 30 ((cd 285).drop 0) = true := by decide +kernel
theorem zk_285_30 : zokN 285 30 ((cd 285).drop 30) = true := by decide +kernel
theorem zk_285 : zokL 285 (cd 285) = true := by
  have h60 : zokL 285 ((cd 285).drop 60) = true := rfl
  have h30 : zokL 285 ((cd 285).drop 30) = true := zokN_join 30 _ zk_285_30 (by rw [List.drop_drop]; exact h60)
  have h0 : zokL 285 ((cd 285).drop 0) = true := zokN_join 30 _ zk_285_0 (by rw [List.drop_drop]; exact h30)
  exact h0
theorem zk_286_0 : zokN 286 30 ((cd 286).drop 0) = true := by decide +kernel
theorem zk_286_30 : zokN 286 30 ((cd 286).drop 30) = true := by decide +kernel
theorem zk_286_60 : zokN 286 30 ((cd 286).drop 60) = true := by decide +kernel
theorem zk_286 : zokL 286 (cd 286) = true := by
  have h90 : zokL 286 ((cd 286).drop 90) = true := rfl
  have h60 : zokL 286 ((cd 286).drop 60) = true := zokN_join 30 _ zk_286_60 (by rw [List.drop_drop]; exact h90)
  have h30 : zokL 286 ((cd 286).drop 30) = true := zokN_join 30 _ zk_286_30 (by rw [List.drop_drop]; exact h60)
  have h0 : zokL 286 ((cd 286).drop 0) = true := zokN_join 30 _ zk_286_0 (by rw [List.drop_drop]; exact h30)
  exact h0
theorem zk_287_0 : zokN 287 30 ((cd 287).drop 0) = true := by decide +kernel
theorem zk_287 : zokL 287 (cd 287) = true := by
  have h30 : zokL 287 ((cd 287).drop 30) = true := rfl
  have h0 : zokL 287 ((cd 287).drop 0) = true := zokN_join 30 _ zk_287_0 (by rw [List.drop_drop]; exact h30)
  exact h0
theorem zk_288_0 : zokN 288 30 ((cd 288).drop 0) = true := by decide +kernel
theorem zk_288 : zokL 288 (cd 288) = true := by
  have h30 : zokL 288 ((cd 288).drop 30) = true := rfl
  have h0 : zokL 288 ((cd 288).drop 0) = true := zokN_join 30 _ zk_288_0 (by rw [List.drop_drop]; exact h30)
  exact h0
theorem zk_289_0 : zokN 289 30 ((cd 289).drop 0) = true := by decide +kernel
theorem zk_289_30 : zokN 289 30 ((cd 289).drop 30) = true := by decide +kernel
theorem zk_289_60 : zokN 289 30 ((cd 289).drop 60) = true := by decide +kernel
theorem zk_289_90 : zokN 289 30 ((cd 289).drop 90) = true := by decide +kernel
theorem zk_289_120 : zokN 289 30 ((cd 289).drop 120) = true := by decide +kernel
theorem zk_289 : zokL 289 (cd 289) = true := by
  have h150 : zokL 289 ((cd 289).drop 150) = true := rfl
  have h120 : zokL 289 ((cd 289).drop 120) = true := zokN_join 30 _ zk_289_120 (by rw [List.drop_drop]; exact h150)
  have h90 : zokL 289 ((cd 289).drop 90) = true := zokN_join 30 _ zk_289_90 (by rw [List.drop_drop]; exact h120)
  have h60 : zokL 289 ((cd 289).drop 60) = true := zokN_join 30 _ zk_289_60 (by rw [List.drop_drop]; exact h90)
  have h30 : zokL 289 ((cd 289).drop 30) = true := zokN_join 30 _ zk_289_30 (by rw [List.drop_drop]; exact h60)
  have h0 : zokL 289 ((cd 289).drop 0) = true := zokN_join 30 _ zk_289_0 (by rw [List.drop_drop]; exact h30)
  exact h0
theorem zk_290_0 : zokN 290 30 ((cd 290).drop 0) = true := by decide +kernel
theorem zk_290_30 : zokN 290 30 ((cd 290).drop 30) = true := by decide +kernel
theorem zk_290 : zokL 290 (cd 290) = true := by
  have h60 : zokL 290 ((cd 290).drop 60) = true := rfl
  have h30 : zokL 290 ((cd 290).drop 30) = true := zokN_join 30 _ zk_290_30 (by rw [List.drop_drop]; exact h60)
  have h0 : zokL 290 ((cd 290).drop 0) = true := zokN_join 30 _ zk_290_0 (by rw [List.drop_drop]; exact h30)
  exact h0
theorem zk_291_0 : zokN 291 30 ((cd 291).drop 0) = true := by decide +kernel
theorem zk_291 : zokL 291 (cd 291) = true := by
  have h30 : zokL 291 ((cd 291).drop 30) = true := rfl
  have h0 : zokL 291 ((cd 291).drop 0) = true := zokN_join 30 _ zk_291_0 (by rw [List.drop_drop]; exact h30)
  exact h0
theorem zk_292_0 : zokN 292 30 ((cd 292).drop 0) = true := by decide +kernel
theorem zk_292 : zokL 292 (cd 292) = true := by
  have h30 : zokL 292 ((cd 292).drop 30) = true := rfl
  have h0 : zokL 292 ((cd 292).drop 0) = true := zokN_join 30 _ zk_292_0 (by rw [List.drop_drop]; exact h30)
  exact h0
theorem zk_293_0 : zokN 293 30 ((cd 293).drop 0) = true := by decide +kernel
theorem zk_293 : zokL 293 (cd 293) = true := by
  have h30 : zokL 293 ((cd 293).drop 30) = true := rfl
  have h0 : zokL 293 ((cd 293).drop 0) = true := zokN_join 30 _ zk_293_0 (by rw [List.drop_drop]; exact h30)
  exact h0
theorem zk_294_0 : zokN 294 30 ((cd 294).drop 0) = true := by decide +kernel
theorem zk_294 : zokL 294 (cd 294) = true := by
  have h30 : zokL 294 ((cd 294).drop 30) = true := rfl
  have h0 : zokL 294 ((cd 294).drop 0) = true := zokN_join 30 _ zk_294_0 (by rw [List.drop_drop]; exact h30)
  exact h0
theorem zk_295_0 : zokN 295 30 ((cd 295).drop 0) = true := by decide +kernel
theorem zk_295 : zokL 295 (cd 295) = true := by
  have h30 : zokL 295 ((cd 295).drop 30) = true := rfl
  have h0 : zokL 295 ((cd 295).drop 0) = true := zokN_join 30 _ zk_295_0 (by rw [List.drop_drop]; exact h30)
  exact h0
theorem zk_296_0 : zokN 296 30 ((cd 296).drop 0) = true := by decide +kernel
theorem zk_296 : zokL 296 (cd 296) = true := by
  have h30 : zokL 296 ((cd 296).drop 30) = true := rfl
  have h0 : zokL 296 ((cd 296).drop 0) = true := zokN_join 30 _ zk_296_0 (by rw [List.drop_drop]; exact h30)
  exact h0
theorem zk_297_0 : zokN 297 30 ((cd 297).drop 0) = true := by decide +kernel
theorem zk_297 : zokL 297 (cd 297) = true := by
  have h30 : zokL 297 ((cd 297).drop 30) = true := rfl
  have h0 : zokL 297 ((cd 297).drop 0) = true := zokN_join 30 _ zk_297_0 (by rw [List.drop_drop]; exact h30)
  exact h0
theorem zk_298_0 : zokN 298 30 ((cd 298).drop 0) = true := by decide +kernel
theorem zk_298 : zokL 298 (cd 298) = true := by
  have h30 : zokL 298 ((cd 298).drop 30) = true := rfl
  have h0 : zokL 298 ((cd 298).drop 0) = true := zokN_join 30 _ zk_298_0 (by rw [List.drop_drop]; exact h30)
  exact h0
theorem zk_299_0 : zokN 299 30 ((cd 299).drop 0) = true := by decide +kernel
theorem zk_299 : zokL 299 (cd 299) = true := by
  have h30 : zokL 299 ((cd 299).drop 30) = true := rfl
  have h0 : zokL 299 ((cd 299).drop 0) = true := zokN_join 30 _ zk_299_0 (by rw [List.drop_drop]; exact h30)
  exact h0
theorem zk_300_0 : zokN 300 30 ((cd 300).drop 0) = true := by decide +kernel
theorem zk_300 : zokL 300 (cd 300) = true := by
  have h30 : zokL 300 ((cd 300).drop 30) = true := rfl
  have h0 : zokL 300 ((cd 300).drop 0) = true := zokN_join 30 _ zk_300_0 (by rw [List.drop_drop]; exact h30)
  exact h0
theorem zk_301_0 : zokN 301 30 ((cd 301).drop 0) = true := by decide +kernel
theorem zk_301_30 : zokN 301 30 ((cd 301).drop 30) = true := by decide +kernel
theorem zk_301_60 : zokN 301 30 ((cd 301).drop 60) = true := by decide +kernel
theorem zk_301 : zokL 301 (cd 301) = true := by
  have h90 : zokL 301 ((cd 301).drop 90) = true := rfl
  have h60 : zokL 301 ((cd 301).drop 60) = true := zokN_join 30 _ zk_301_60 (by rw [List.drop_drop]; exact h90)
  have h30 : zokL 301 ((cd 301).drop 30) = true := zokN_join 30 _ zk_301_30 (by rw [List.drop_drop]; exact h60)
  have h0 : zokL 301 ((cd 301).drop 0) = true := zokN_join 30 _ zk_301_0 (by rw [List.drop_drop]; exact h30)
  exact h0
